/-! THE BEST SENTENCE, in plain Lean -/
set_option maxRecDepth 100000
def lexLt : List Nat → List Nat → Prop
  | a :: s, b :: t => a < b ∨ (a = b ∧ lexLt s t)
  | _, _ => False
def lexLtB : List Nat → List Nat → Bool
  | a :: s, b :: t => decide (a < b) || (decide (a = b) && lexLtB s t)
  | _, _ => false
theorem lexLtB_iff : ∀ (s t : List Nat), lexLtB s t = true ↔ lexLt s t
  | [], [] => by simp [lexLtB, lexLt]
  | [], _ :: _ => by simp [lexLtB, lexLt]
  | _ :: _, [] => by simp [lexLtB, lexLt]
  | a :: s, b :: t => by simp [lexLtB, lexLt, lexLtB_iff s t]
theorem lexLt_tri : ∀ (s t : List Nat), s.length = t.length → s = t ∨ lexLt s t ∨ lexLt t s
  | [], [], _ => Or.inl rfl
  | [], _ :: _, h => by simp at h
  | _ :: _, [], h => by simp at h
  | a :: s, b :: t, h => by
    have h1 := lexLt_tri s t (by simpa using h)
    rcases Nat.lt_trichotomy a b with q | q | q
    · exact Or.inr (Or.inl (Or.inl q))
    · subst q
      rcases h1 with h1 | h1 | h1
      · exact Or.inl (by rw [h1])
      · exact Or.inr (Or.inl (Or.inr ⟨rfl, h1⟩))
      · exact Or.inr (Or.inr (Or.inr ⟨rfl, h1⟩))
    · exact Or.inr (Or.inr (Or.inl q))
theorem lexLt_irr : ∀ (s : List Nat), ¬ lexLt s s
  | [], h => h
  | a :: s, h => by
    rcases h with h | ⟨-, h⟩
    · omega
    · exact lexLt_irr s h
theorem lexLt_asymm : ∀ (s t : List Nat), lexLt s t → ¬ lexLt t s
  | [], _, h, _ => h
  | _ :: _, [], h, _ => h
  | a :: s, b :: t, h, h2 => by
    rcases h with h | ⟨e, h⟩ <;> rcases h2 with h2 | ⟨e2, h2⟩
    · omega
    · omega
    · omega
    · exact lexLt_asymm s t h h2
theorem lexLt_trans : ∀ (s t u : List Nat), lexLt s t → lexLt t u → lexLt s u
  | [], _, _, h, _ => h.elim
  | _ :: _, [], _, h, _ => h.elim
  | _ :: _, _ :: _, [], _, h => h.elim
  | a :: s, b :: t, c :: u, h, h2 => by
    rcases h with h | ⟨e, h⟩ <;> rcases h2 with h2 | ⟨e2, h2⟩
    · exact Or.inl (by omega)
    · exact Or.inl (by omega)
    · exact Or.inl (by omega)
    · exact Or.inr ⟨by omega, lexLt_trans s t u h h2⟩
/-- the first place where they differ -/
theorem lexLt_at : ∀ (s t : List Nat) (k : Nat), s.length = t.length → k < s.length → (∀ j, j < k → s.getD j 0 = t.getD j 0) → s.getD k 0 ≠ t.getD k 0 → (lexLt s t ↔ s.getD k 0 < t.getD k 0)
  | [], _, k, _, hk, _, _ => by simp at hk
  | _ :: _, [], k, h, _, _, _ => by simp at h
  | a :: s, b :: t, 0, _, _, _, hne => by
    simp [lexLt] at *
    omega
  | a :: s, b :: t, k + 1, h, hk, he, hne => by
    have e0 : a = b := by simpa using he 0 (by omega)
    subst e0
    have := lexLt_at s t k (by simpa using h) (by simpa using hk) (fun j hj => by simpa using he (j + 1) (by omega)) (by simpa using hne)
    simpa [lexLt] using this
def btr (sm : List Nat → Nat) (s t : List Nat) : Prop := sm t < sm s ∨ (sm s = sm t ∧ (s.length < t.length ∨ (s.length = t.length ∧ lexLt s t)))
theorem btr_tri {sm : List Nat → Nat} (s t : List Nat) : s = t ∨ btr sm s t ∨ btr sm t s := by
  rcases Nat.lt_trichotomy (sm s) (sm t) with h | h | h
  · exact Or.inr (Or.inr (Or.inl h))
  · rcases Nat.lt_trichotomy s.length t.length with q | q | q
    · exact Or.inr (Or.inl (Or.inr ⟨h, Or.inl q⟩))
    · rcases lexLt_tri s t q with z | z | z
      · exact Or.inl z
      · exact Or.inr (Or.inl (Or.inr ⟨h, Or.inr ⟨q, z⟩⟩))
      · exact Or.inr (Or.inr (Or.inr ⟨h.symm, Or.inr ⟨q.symm, z⟩⟩))
    · exact Or.inr (Or.inr (Or.inr ⟨h.symm, Or.inl q⟩))
  · exact Or.inr (Or.inl (Or.inl h))
theorem btr_asymm {sm : List Nat → Nat} {s t : List Nat} (h : btr sm s t) : ¬ btr sm t s := by
  intro h2
  rcases h with h | ⟨e, h⟩ <;> rcases h2 with h2 | ⟨e2, h2⟩
  · omega
  · omega
  · omega
  · rcases h with h | ⟨q, h⟩ <;> rcases h2 with h2 | ⟨q2, h2⟩
    · omega
    · omega
    · omega
    · exact lexLt_asymm _ _ h h2
theorem btr_trans {sm : List Nat → Nat} {s t u : List Nat} (h : btr sm s t) (h2 : btr sm t u) : btr sm s u := by
  rcases h with h | ⟨e, h⟩ <;> rcases h2 with h2 | ⟨e2, h2⟩
  · exact Or.inl (by omega)
  · exact Or.inl (by omega)
  · exact Or.inl (by omega)
  · refine Or.inr ⟨by omega, ?_⟩
    rcases h with h | ⟨q, h⟩ <;> rcases h2 with h2 | ⟨q2, h2⟩
    · exact Or.inl (by omega)
    · exact Or.inl (by omega)
    · exact Or.inl (by omega)
    · exact Or.inr ⟨by omega, lexLt_trans _ _ _ h h2⟩
/-- b is the best of S, P its points and one; none: 0 -/
def BestOn (sm : List Nat → Nat) (S : List Nat → Prop) (P : Nat) (b : List Nat) : Prop := (P = 0 ∧ b = [] ∧ ∀ s, ¬ S s) ∨ (P = sm b + 1 ∧ S b ∧ ∀ s, S s → s = b ∨ btr sm b s)
theorem BestOn.congr {sm : List Nat → Nat} {S S2 : List Nat → Prop} {P : Nat} {b : List Nat} (h : BestOn sm S P b) (e : ∀ s, S s ↔ S2 s) : BestOn sm S2 P b := by
  rcases h with ⟨h1, h2, h3⟩ | ⟨h1, h2, h3⟩
  · exact Or.inl ⟨h1, h2, fun s hs => h3 s ((e s).mpr hs)⟩
  · exact Or.inr ⟨h1, (e b).mp h2, fun s hs => h3 s ((e s).mpr hs)⟩
theorem BestOn.one {sm : List Nat → Nat} {S : List Nat → Prop} {P P2 : Nat} {b b2 : List Nat} (h : BestOn sm S P b) (h2 : BestOn sm S P2 b2) : P = P2 ∧ b = b2 := by
  rcases h with ⟨h1, hb, h3⟩ | ⟨h1, hb, h3⟩ <;> rcases h2 with ⟨g1, gb, g3⟩ | ⟨g1, gb, g3⟩
  · exact ⟨by omega, by rw [hb, gb]⟩
  · exact absurd gb (h3 _)
  · exact absurd hb (g3 _)
  · have e : b = b2 := by
      rcases h3 _ gb with e | e
      · exact e.symm
      · rcases g3 _ hb with e2 | e2
        · exact e2
        · exact absurd e2 (btr_asymm e)
    subst e
    exact ⟨by omega, rfl⟩
theorem BestOn.none {sm : List Nat → Nat} : BestOn sm (fun _ => False) 0 [] := Or.inl ⟨rfl, rfl, fun _ h => h⟩
/-- one more: it is better -/
theorem BestOn.up {sm : List Nat → Nat} {S : List Nat → Prop} {P : Nat} {b c : List Nat} (h : BestOn sm S P b) (hc : P = 0 ∨ btr sm c b) : BestOn sm (fun s => S s ∨ s = c) (sm c + 1) c := by
  refine Or.inr ⟨rfl, Or.inr rfl, fun s hs => ?_⟩
  rcases hs with hs | hs
  · rcases h with ⟨-, -, h3⟩ | ⟨h1, hb, h3⟩
    · exact absurd hs (h3 s)
    · have hc : btr sm c b := by
        rcases hc with hc | hc
        · omega
        · exact hc
      rcases h3 s hs with e | e
      · exact Or.inr (by rw [e]; exact hc)
      · exact Or.inr (btr_trans hc e)
  · exact Or.inl hs
/-- one more: it isn't -/
theorem BestOn.same {sm : List Nat → Nat} {S : List Nat → Prop} {P : Nat} {b c : List Nat} (h : BestOn sm S P b) (hc : ¬ (P = 0 ∨ btr sm c b)) : BestOn sm (fun s => S s ∨ s = c) P b := by
  rcases h with ⟨h1, -, -⟩ | ⟨h1, hb, h3⟩
  · exact absurd (Or.inl h1) hc
  · refine Or.inr ⟨h1, Or.inl hb, fun s hs => ?_⟩
    rcases hs with hs | hs
    · exact h3 s hs
    · subst hs
      rcases btr_tri (sm := sm) s b with e | e | e
      · exact Or.inl e
      · exact absurd (Or.inr e) hc
      · exact Or.inr e
/-- points as an int: none is -1 -/
def ptI (P : Nat) : Int32 := if P = 0 then -1 else nI (P - 1)
theorem ptI_s (n : Nat) : ptI (n + 1) = nI n := by simp [ptI]
theorem ptI_0 : ptI 0 = -1 := rfl
theorem ptI_toInt {P : Nat} (h : P < 2 ^ 31) : (ptI P).toInt = (P : Int) - 1 := by
  unfold ptI
  split
  · rename_i h0
    subst h0
    decide
  · rw [nI_toInt (by omega)]
    omega
/-- the state behind a word; none (6) if it cannot stand there -/
def gNext (q w : Nat) : Nat :=
  if q = 0 then (if w % 3 = 1 then 6 else if w % 3 = 0 then 2 else 1)
  else if q = 1 then (if w % 3 = 0 then 2 else 6)
  else if q = 2 then (if w % 3 = 1 then 3 else 6)
  else if q = 3 then (if w % 3 = 1 then 6 else if w % 3 = 0 then 5 else 4)
  else if q = 4 then (if w % 3 = 0 then 5 else 6)
  else 6
def gRun (q : Nat) : List Nat → Nat
  | [] => q
  | w :: s => gRun (gNext q w) s
/-- a sentence: by the grammar, its words apart -/
def Sent (s : List Nat) : Prop := (gRun 0 s = 3 ∨ gRun 0 s = 5) ∧ s.Nodup ∧ ∀ w ∈ s, w < 18
def okS (bn : Nat → Bool) (s : List Nat) : Prop := Sent s ∧ ∀ w ∈ s, bn w = false
def smS (gv : Nat → Nat) (s : List Nat) : Nat := (s.map gv).sum
theorem smS_app (gv : Nat → Nat) (s t : List Nat) : smS gv (s ++ t) = smS gv s + smS gv t := by simp [smS]
theorem gRun_6 : ∀ s : List Nat, gRun 6 s = 6
  | [] => rfl
  | w :: s => by
    have : gNext 6 w = 6 := by simp [gNext]
    rw [gRun, this]
    exact gRun_6 s
theorem gRun_5 (w : Nat) (s : List Nat) : gRun 5 (w :: s) = 6 := by
  have : gNext 5 w = 6 := by simp [gNext]
  rw [gRun, this]
  exact gRun_6 s
theorem gRun_app (q : Nat) (s t : List Nat) : gRun q (s ++ t) = gRun (gRun q s) t := by
  induction s generalizing q with
  | nil => rfl
  | cons w s ih => exact ih _
/-- the part of a sentence from state 3 on: nothing, or an object with a quality or without -/
theorem gRun_3 {s : List Nat} : (gRun 3 s = 3 ∨ gRun 3 s = 5) ↔ (s = [] ∨ (∃ o, s = [o] ∧ o % 3 = 0) ∨ ∃ p o, s = [p, o] ∧ p % 3 = 2 ∧ o % 3 = 0) := by
  constructor
  · intro h
    match s, h with
    | [], _ => exact Or.inl rfl
    | [a], h =>
      refine Or.inr (Or.inl ⟨a, rfl, ?_⟩)
      by_cases q : a % 3 = 0
      · exact q
      · exfalso
        by_cases q1 : a % 3 = 1 <;> simp [gRun, gNext, q, q1] at h
    | a :: b :: r, h =>
      have h3 : a % 3 < 3 := Nat.mod_lt _ (by decide)
      have hb3 : b % 3 < 3 := Nat.mod_lt _ (by decide)
      rcases (show a % 3 = 0 ∨ a % 3 = 1 ∨ a % 3 = 2 by omega) with q | q | q
      · have e : gNext 3 a = 5 := by simp [gNext, q]
        rw [gRun, e, gRun_5] at h
        simp at h
      · have e : gNext 3 a = 6 := by simp [gNext, q]
        rw [gRun, e, gRun_6] at h
        simp at h
      · have e : gNext 3 a = 4 := by simp [gNext, q]
        rw [gRun, e, gRun] at h
        by_cases qb : b % 3 = 0
        · have e2 : gNext 4 b = 5 := by simp [gNext, qb]
          rw [e2] at h
          cases r with
          | nil => exact Or.inr (Or.inr ⟨a, b, rfl, q, qb⟩)
          | cons x r => rw [gRun_5] at h; simp at h
        · have e2 : gNext 4 b = 6 := by simp [gNext, qb]
          rw [e2, gRun_6] at h
          simp at h
  · rintro (rfl | ⟨o, rfl, h⟩ | ⟨p, o, rfl, h, h2⟩)
    · exact Or.inl rfl
    · exact Or.inr (by simp [gRun, gNext, h])
    · exact Or.inr (by simp [gRun, gNext, h, h2])
theorem gRun_2 {s : List Nat} : (gRun 2 s = 3 ∨ gRun 2 s = 5) ↔ ∃ v r, s = v :: r ∧ v % 3 = 1 ∧ (gRun 3 r = 3 ∨ gRun 3 r = 5) := by
  constructor
  · intro h
    match s, h with
    | [], h => simp [gRun] at h
    | a :: r, h =>
      by_cases q : a % 3 = 1
      · have e : gNext 2 a = 3 := by simp [gNext, q]
        rw [gRun, e] at h
        exact ⟨a, r, rfl, q, h⟩
      · have e : gNext 2 a = 6 := by simp [gNext, q]
        rw [gRun, e, gRun_6] at h
        simp at h
  · rintro ⟨v, r, rfl, h, h2⟩
    have e : gNext 2 v = 3 := by simp [gNext, h]
    rw [gRun, e]
    exact h2
theorem gRun_1 {s : List Nat} : (gRun 1 s = 3 ∨ gRun 1 s = 5) ↔ ∃ n r, s = n :: r ∧ n % 3 = 0 ∧ (gRun 2 r = 3 ∨ gRun 2 r = 5) := by
  constructor
  · intro h
    match s, h with
    | [], h => simp [gRun] at h
    | a :: r, h =>
      by_cases q : a % 3 = 0
      · have e : gNext 1 a = 2 := by simp [gNext, q]
        rw [gRun, e] at h
        exact ⟨a, r, rfl, q, h⟩
      · have e : gNext 1 a = 6 := by simp [gNext, q]
        rw [gRun, e, gRun_6] at h
        simp at h
  · rintro ⟨v, r, rfl, h, h2⟩
    have e : gNext 1 v = 2 := by simp [gNext, h]
    rw [gRun, e]
    exact h2
theorem gRun_0 {s : List Nat} : (gRun 0 s = 3 ∨ gRun 0 s = 5) ↔ (∃ n r, s = n :: r ∧ n % 3 = 0 ∧ (gRun 2 r = 3 ∨ gRun 2 r = 5)) ∨ ∃ q r, s = q :: r ∧ q % 3 = 2 ∧ (gRun 1 r = 3 ∨ gRun 1 r = 5) := by
  constructor
  · intro h
    match s, h with
    | [], h => simp [gRun] at h
    | a :: r, h =>
      have h3 : a % 3 < 3 := Nat.mod_lt _ (by decide)
      rcases (show a % 3 = 0 ∨ a % 3 = 1 ∨ a % 3 = 2 by omega) with q | q | q
      · have e : gNext 0 a = 2 := by simp [gNext, q]
        rw [gRun, e] at h
        exact Or.inl ⟨a, r, rfl, q, h⟩
      · have e : gNext 0 a = 6 := by simp [gNext, q]
        rw [gRun, e, gRun_6] at h
        simp at h
      · have e : gNext 0 a = 1 := by simp [gNext, q]
        rw [gRun, e] at h
        exact Or.inr ⟨a, r, rfl, q, h⟩
  · rintro (⟨v, r, rfl, h, h2⟩ | ⟨v, r, rfl, h, h2⟩)
    · have e : gNext 0 v = 2 := by simp [gNext, h]
      rw [gRun, e]
      exact h2
    · have e : gNext 0 v = 1 := by simp [gNext, h]
      rw [gRun, e]
      exact h2
/-- the five places of a sentence -/
def opL (q : Option Nat) : List Nat := match q with
  | none => []
  | some w => [w]
def five (q : Option Nat) (n v : Nat) (p o : Option Nat) : List Nat := opL q ++ [n, v] ++ opL p ++ opL o
/-- a sentence by its places -/
theorem Sent_iff {s : List Nat} : Sent s ↔ ∃ (q : Option Nat) (n v : Nat) (p o : Option Nat), s = five q n v p o ∧ (∀ w, q = some w → w % 3 = 2 ∧ w < 18) ∧ (n % 3 = 0 ∧ n < 18) ∧ (v % 3 = 1 ∧ v < 18) ∧ (∀ w, p = some w → w % 3 = 2 ∧ w < 18) ∧ (∀ w, o = some w → w % 3 = 0 ∧ w < 18) ∧ (o = none → p = none) ∧ (∀ w, o = some w → w ≠ n) ∧ (∀ w, q = some w → p = some w → False) := by
  have key : ∀ (r : List Nat), (gRun 2 r = 3 ∨ gRun 2 r = 5) ↔ ∃ (v : Nat) (p o : Option Nat), r = v :: (opL p ++ opL o) ∧ v % 3 = 1 ∧ (∀ w, p = some w → w % 3 = 2) ∧ (∀ w, o = some w → w % 3 = 0) ∧ (o = none → p = none) := by
    intro r
    rw [gRun_2]
    constructor
    · rintro ⟨v, r, rfl, hv, h⟩
      rcases gRun_3.mp h with rfl | ⟨o, rfl, ho⟩ | ⟨p, o, rfl, hp, ho⟩
      · exact ⟨v, none, none, rfl, hv, by simp, by simp, by simp⟩
      · exact ⟨v, none, some o, rfl, hv, by simp, by simpa using ho, by simp⟩
      · exact ⟨v, some p, some o, rfl, hv, by simpa using hp, by simpa using ho, by simp⟩
    · rintro ⟨v, p, o, rfl, hv, hp, ho, hpo⟩
      refine ⟨v, _, rfl, hv, gRun_3.mpr ?_⟩
      cases o with
      | none => rw [hpo rfl]; exact Or.inl rfl
      | some o =>
        cases p with
        | none => exact Or.inr (Or.inl ⟨o, rfl, ho o rfl⟩)
        | some p => exact Or.inr (Or.inr ⟨p, o, rfl, hp p rfl, ho o rfl⟩)
  constructor
  · rintro ⟨h, hnd, hlt⟩
    rcases gRun_0.mp h with ⟨n, r, rfl, hn, h⟩ | ⟨q, r, rfl, hq, h⟩
    · obtain ⟨v, p, o, rfl, hv, hp, ho, hpo⟩ := (key r).mp h
      refine ⟨none, n, v, p, o, by simp [five, opL], by simp, ⟨hn, hlt n (by simp)⟩, ⟨hv, hlt v (by simp)⟩, fun w hw => ⟨hp w hw, hlt w (by subst hw; simp [opL])⟩, fun w hw => ⟨ho w hw, hlt w (by subst hw; simp [opL])⟩, hpo, fun w hw e => ?_, by simp⟩
      subst hw
      subst e
      simp [opL] at hnd
    · obtain ⟨n, r, rfl, hn, h⟩ := gRun_1.mp h
      obtain ⟨v, p, o, rfl, hv, hp, ho, hpo⟩ := (key r).mp h
      refine ⟨some q, n, v, p, o, by simp [five, opL], fun w hw => by cases hw; exact ⟨hq, hlt q (by simp)⟩, ⟨hn, hlt n (by simp)⟩, ⟨hv, hlt v (by simp)⟩, fun w hw => ⟨hp w hw, hlt w (by subst hw; simp [opL])⟩, fun w hw => ⟨ho w hw, hlt w (by subst hw; simp [opL])⟩, hpo, fun w hw e => ?_, fun w hw hw2 => ?_⟩
      · subst hw
        subst e
        simp [opL] at hnd
      · cases hw
        subst hw2
        simp [opL] at hnd
  · rintro ⟨q, n, v, p, o, rfl, hq, hn, hv, hp, ho, hpo, hon, hqp⟩
    have h2 : gRun 2 (v :: (opL p ++ opL o)) = 3 ∨ gRun 2 (v :: (opL p ++ opL o)) = 5 := (key _).mpr ⟨v, p, o, rfl, hv.1, fun w hw => (hp w hw).1, fun w hw => (ho w hw).1, hpo⟩
    have e1 : five q n v p o = opL q ++ (n :: v :: (opL p ++ opL o)) := by simp [five]
    refine ⟨?_, ?_, ?_⟩
    · rw [e1]
      cases q with
      | none => exact gRun_0.mpr (Or.inl ⟨n, _, rfl, hn.1, h2⟩)
      | some q => exact gRun_0.mpr (Or.inr ⟨q, _, rfl, (hq q rfl).1, gRun_1.mpr ⟨n, _, rfl, hn.1, h2⟩⟩)
    · have hn1 := hn.1
      have hv1 := hv.1
      cases q <;> cases p <;> cases o <;> simp [five, opL] <;> simp at hq hp ho hpo hon hqp <;> omega
    · intro w hw
      cases q <;> cases p <;> cases o <;> simp [five, opL] at hw <;> simp at hq hp ho hpo hon hqp <;> omega
theorem five_len (q : Option Nat) (n v : Nat) (p o : Option Nat) : (five q n v p o).length ≤ 5 := by
  cases q <;> cases p <;> cases o <;> simp [five, opL]
theorem Sent_len {s : List Nat} (h : Sent s) : 2 ≤ s.length ∧ s.length ≤ 5 := by
  obtain ⟨q, n, v, p, o, rfl, -⟩ := Sent_iff.mp h
  refine ⟨?_, five_len _ _ _ _ _⟩
  cases q <;> cases p <;> cases o <;> simp [five, opL]
/-- an array's first places hold a list -/
def Pre (f : Nat → Int32) (l : List Nat) : Prop := ∀ k, k < l.length → f k = nI (l.getD k 0)
