/-! the reference's way through the sentences, in plain Lean -/
set_option maxRecDepth 100000
theorem va_cpy_0 {α : Type} (f g : Nat → α) (a b : Nat) : va_cpy f g a b 0 = g := by
  funext k
  unfold va_cpy
  rw [if_neg (by omega)]
theorem va_cpy_s (f g : Nat → Int32) (a b n : Nat) : upd (va_cpy f g a b n) (b + n) (f (a + n)) = va_cpy f g a b (n + 1) := by
  funext k
  unfold upd va_cpy
  by_cases h : k = b + n
  · subst h
    rw [if_pos rfl, if_pos (by omega), Nat.add_sub_cancel_left]
  · rw [if_neg h]
    by_cases h2 : b ≤ k ∧ k < b + n
    · rw [if_pos h2, if_pos (by omega)]
    · rw [if_neg h2, if_neg (by omega)]
def isBetterB (x : Nat) (s : List Nat) (P : Nat) (b : List Nat) : Bool := decide (P < x + 1) || (decide (x + 1 = P) && (decide (s.length < b.length) || (decide (s.length = b.length) && lexLtB s b)))
theorem ptI_eq {x P : Nat} (hx : x < 1000) (hP : P < 1000) : nI x = ptI P ↔ x + 1 = P := by
  rw [← Int32.toInt_inj, nI_toInt (by omega), ptI_toInt (by omega)]
  omega
theorem ptI_le {x P : Nat} (hx : x < 1000) (hP : P < 1000) : nI x ≤ ptI P ↔ x + 1 ≤ P := by
  rw [Int32.le_iff_toInt_le, nI_toInt (by omega), ptI_toInt (by omega)]
  omega
theorem isBetterB_iff {sm : List Nat → Nat} {S : List Nat → Prop} {P : Nat} {b c : List Nat} (h : BestOn sm S P b) : isBetterB (sm c) c P b = true ↔ (P = 0 ∨ btr sm c b) := by
  unfold isBetterB btr
  simp only [Bool.or_eq_true, Bool.and_eq_true, decide_eq_true_eq, lexLtB_iff]
  rcases h with ⟨h1, -, -⟩ | ⟨h1, -, -⟩
  · constructor
    · intro _; exact Or.inl h1
    · intro _; exact Or.inl (by omega)
  · constructor
    · rintro (q | ⟨q, r⟩)
      · exact Or.inr (Or.inl (by omega))
      · exact Or.inr (Or.inr ⟨by omega, r⟩)
    · rintro (q | q | ⟨q, r⟩)
      · omega
      · exact Or.inl (by omega)
      · exact Or.inr ⟨by omega, r⟩
/-- a place of a sentence as an int -/
def oI (q : Option Nat) : Int32 := match q with
  | none => -1
  | some w => nI w
theorem oI_lt {q : Option Nat} (h : ∀ w, q = some w → w < 18) : (oI q < 0) ↔ q = none := by
  cases q with
  | none => exact ⟨fun _ => rfl, fun _ => by decide⟩
  | some w => exact ⟨fun z => absurd z (nI_pos (by have := h w rfl; omega)), fun z => by cases z⟩
theorem oI_inj {q r : Option Nat} (hq : ∀ w, q = some w → w < 18) (hr : ∀ w, r = some w → w < 18) : oI q = oI r ↔ q = r := by
  cases q with
  | none =>
    cases r with
    | none => simp
    | some w => exact ⟨fun z => absurd ((oI_lt hr).mp (by rw [← z]; decide)) (by simp), fun z => by cases z⟩
  | some v =>
    cases r with
    | none => exact ⟨fun z => absurd ((oI_lt hq).mp (by rw [z]; decide)) (by simp), fun z => by cases z⟩
    | some w =>
      have h1 := hq v rfl
      have h2 := hr w rfl
      exact ⟨fun z => by rw [nI_inj (by omega) (by omega) z], fun z => by rw [z]⟩
/-- the places, one by one -/
def pl5 (q : Option Nat) (n v : Nat) (p o : Option Nat) : List (Option Nat) := [q, some n, some v, p, o]
def tr5 (q : Option Nat) (n v : Nat) (p o : Option Nat) (k : Nat) : List Nat := ((pl5 q n v p o).take k).flatMap opL
theorem tr5_0 (q : Option Nat) (n v : Nat) (p o : Option Nat) : tr5 q n v p o 0 = [] := rfl
theorem tr5_5 (q : Option Nat) (n v : Nat) (p o : Option Nat) : tr5 q n v p o 5 = five q n v p o := by
  simp [tr5, pl5, five, opL]
theorem tr5_s (q : Option Nat) (n v : Nat) (p o : Option Nat) {k : Nat} (hk : k < 5) : tr5 q n v p o (k + 1) = tr5 q n v p o k ++ opL ((pl5 q n v p o).getD k none) := by
  rcases (show k = 0 ∨ k = 1 ∨ k = 2 ∨ k = 3 ∨ k = 4 by omega) with rfl | rfl | rfl | rfl | rfl <;> simp [tr5, pl5]
theorem opL_len (q : Option Nat) : (opL q).length ≤ 1 := by cases q <;> simp [opL]
theorem tr5_len (q : Option Nat) (n v : Nat) (p o : Option Nat) : ∀ k, k ≤ 5 → (tr5 q n v p o k).length ≤ k := by
  intro k
  induction k with
  | zero => intro _; simp [tr5_0]
  | succ k ih =>
    intro h
    rw [tr5_s _ _ _ _ _ (by omega), List.length_append]
    have := ih (by omega)
    have := opL_len ((pl5 q n v p o).getD k none)
    omega
def GT (n v : Nat) (p o : Option Nat) : Prop := (n % 3 = 0 ∧ n < 18) ∧ (v % 3 = 1 ∧ v < 18) ∧ (∀ w, p = some w → w % 3 = 2 ∧ w < 18) ∧ (∀ w, o = some w → w % 3 = 0 ∧ w < 18) ∧ (o = none → p = none)
def qOk (q : Option Nat) : Prop := ∀ w, q = some w → w % 3 = 2 ∧ w < 18
theorem pl5_lt {q : Option Nat} {n v : Nat} {p o : Option Nat} (hq : qOk q) (hg : GT n v p o) {k w : Nat} (h : (pl5 q n v p o).getD k none = some w) : w < 18 := by
  obtain ⟨hn, hv, hp, ho, -⟩ := hg
  have : k = 0 ∨ k = 1 ∨ k = 2 ∨ k = 3 ∨ k = 4 ∨ 5 ≤ k := by omega
  rcases this with rfl | rfl | rfl | rfl | rfl | h5
  · exact (hq w h).2
  · simp [pl5] at h; omega
  · simp [pl5] at h; omega
  · exact (hp w h).2
  · exact (ho w h).2
  · rw [List.getD_eq_getElem?_getD, List.getElem?_eq_none (by simpa [pl5] using h5)] at h
    cases h
/-- whether the places make a sentence -/
theorem five_sent {q : Option Nat} {n v : Nat} {p o : Option Nat} (hq : qOk q) (hg : GT n v p o) : Sent (five q n v p o) ↔ some n ≠ o ∧ (q ≠ p ∨ q = none) := by
  obtain ⟨hn, hv, hp, ho, hpo⟩ := hg
  constructor
  · rintro ⟨-, hnd, -⟩
    constructor
    · intro e
      rw [← e] at hnd
      cases q <;> cases p <;> simp [five, opL] at hnd
    · cases q with
      | none => exact Or.inr rfl
      | some q =>
        refine Or.inl fun e => ?_
        rw [← e] at hnd
        cases o <;> simp [five, opL] at hnd
  · rintro ⟨h1, h2⟩
    refine Sent_iff.mpr ⟨q, n, v, p, o, rfl, hq, hn, hv, hp, ho, hpo, fun w hw e => h1 (by rw [hw, e]), fun w hw hw2 => ?_⟩
    rcases h2 with h2 | h2
    · exact h2 (by rw [hw, hw2])
    · rw [hw] at h2; cases h2
/-- what a word brings, as the reference has it: -1 if it is forbidden -/
def gI (bn : Nat → Bool) (gv : Nat → Nat) (w : Nat) : Int32 := if bn w then -1 else nI (gv w)
theorem gI_lt {bn : Nat → Bool} {gv : Nat → Nat} {w : Nat} (h : gv w ≤ 3) : gI bn gv w < 0 ↔ bn w = true := by
  unfold gI
  split
  · rename_i hb
    exact ⟨fun _ => hb, fun _ => by decide⟩
  · rename_i hb
    exact ⟨fun z => absurd z (nI_pos (by omega)), fun z => absurd z hb⟩
/-- the q-th quality, or none -/
def qO (i : Nat) : Option Nat := if i = 0 then none else some (3 * i - 1)
def qI (i : Nat) : Int32 := oI (qO i)
theorem qI_s {i : Nat} (h : i < 7) : qI i + Int32.ofInt 3 = qI (i + 1) := by
  have : ∀ i : Fin 7, qI i.val + Int32.ofInt 3 = qI (i.val + 1) := by decide
  exact this ⟨i, h⟩
theorem qI_ge {i : Nat} (h : i < 8) : nI 18 ≤ qI i ↔ 7 ≤ i := by
  have : ∀ i : Fin 8, nI 18 ≤ qI i.val ↔ 7 ≤ i.val := by decide
  exact this ⟨i, h⟩
theorem qO_ok {i : Nat} (h : i < 7) : qOk (qO i) := by
  intro w hw
  unfold qO at hw
  split at hw
  · cases hw
  · cases hw; omega
theorem qO_of {q : Option Nat} (h : qOk q) : ∃ i, i < 7 ∧ q = qO i := by
  cases q with
  | none => exact ⟨0, by decide, rfl⟩
  | some w =>
    have := h w rfl
    exact ⟨(w + 1) / 3, by omega, by unfold qO; rw [if_neg (by omega)]; congr 1; omega⟩
section SETS
variable (bn : Nat → Bool)
def S1 (i : Nat) (s : List Nat) : Prop := ∃ i', i' < i ∧ ∃ n v p o, GT n v p o ∧ s = five (qO i') n v p o ∧ okS bn s
def S2 (i j : Nat) (s : List Nat) : Prop := S1 bn i s ∨ ∃ j', j' < j ∧ ∃ v p o, GT (3 * j') v p o ∧ s = five (qO i) (3 * j') v p o ∧ okS bn s
def S3 (i j k : Nat) (s : List Nat) : Prop := S2 bn i j s ∨ ∃ k', k' < k ∧ ∃ p o, GT (3 * j) (3 * k' + 1) p o ∧ s = five (qO i) (3 * j) (3 * k' + 1) p o ∧ okS bn s
def S4 (i j k a : Nat) (s : List Nat) : Prop := (S3 bn i j k s ∨ (s = five (qO i) (3 * j) (3 * k + 1) none none ∧ okS bn s)) ∨ ∃ a', a' < a ∧ ∃ o', GT (3 * j) (3 * k + 1) (qO a') (some o') ∧ s = five (qO i) (3 * j) (3 * k + 1) (qO a') (some o') ∧ okS bn s
def S5 (i j k a b : Nat) (s : List Nat) : Prop := S4 bn i j k a s ∨ ∃ b', b' < b ∧ s = five (qO i) (3 * j) (3 * k + 1) (qO a) (some (3 * b')) ∧ okS bn s
variable {bn : Nat → Bool}
theorem S1_0 (s : List Nat) : False ↔ S1 bn 0 s := ⟨fun h => h.elim, fun ⟨_, h, _⟩ => absurd h (Nat.not_lt_zero _)⟩
theorem S1_7 (s : List Nat) : S1 bn 7 s ↔ okS bn s := by
  constructor
  · rintro ⟨_, _, _, _, _, _, _, _, h⟩; exact h
  · intro h
    obtain ⟨q, n, v, p, o, e, hq, hn, hv, hp, ho, hpo, -⟩ := Sent_iff.mp h.1
    obtain ⟨i, hi, rfl⟩ := qO_of hq
    exact ⟨i, hi, n, v, p, o, ⟨hn, hv, hp, ho, hpo⟩, e, h⟩
theorem S2_0 (i : Nat) (s : List Nat) : S1 bn i s ↔ S2 bn i 0 s := ⟨Or.inl, fun h => by rcases h with h | ⟨_, h, _⟩; exact h; exact absurd h (Nat.not_lt_zero _)⟩
theorem S2_6 (i : Nat) (s : List Nat) : S2 bn i 6 s ↔ S1 bn (i + 1) s := by
  constructor
  · rintro (⟨i', h, r⟩ | ⟨j', h, v, p, o, r⟩)
    · exact ⟨i', by omega, r⟩
    · exact ⟨i, by omega, 3 * j', v, p, o, r⟩
  · rintro ⟨i', h, n, v, p, o, hg, r⟩
    rcases Nat.lt_succ_iff_lt_or_eq.mp h with h | rfl
    · exact Or.inl ⟨i', h, n, v, p, o, hg, r⟩
    · have := hg.1
      obtain ⟨j', hj, rfl⟩ : ∃ j', j' < 6 ∧ n = 3 * j' := ⟨n / 3, by omega, by omega⟩
      exact Or.inr ⟨j', hj, v, p, o, hg, r⟩
theorem S3_0 (i j : Nat) (s : List Nat) : S2 bn i j s ↔ S3 bn i j 0 s := ⟨Or.inl, fun h => by rcases h with h | ⟨_, h, _⟩; exact h; exact absurd h (Nat.not_lt_zero _)⟩
theorem S3_6 (i j : Nat) (s : List Nat) : S3 bn i j 6 s ↔ S2 bn i (j + 1) s := by
  constructor
  · rintro ((h | ⟨j', h, r⟩) | ⟨k', h, p, o, r⟩)
    · exact Or.inl h
    · exact Or.inr ⟨j', by omega, r⟩
    · exact Or.inr ⟨j, by omega, 3 * k' + 1, p, o, r⟩
  · rintro (h | ⟨j', h, v, p, o, hg, r⟩)
    · exact Or.inl (Or.inl h)
    · rcases Nat.lt_succ_iff_lt_or_eq.mp h with h | rfl
      · exact Or.inl (Or.inr ⟨j', h, v, p, o, hg, r⟩)
      · have := hg.2.1
        obtain ⟨k', hj, rfl⟩ : ∃ k', k' < 6 ∧ v = 3 * k' + 1 := ⟨v / 3, by omega, by omega⟩
        exact Or.inr ⟨k', hj, p, o, hg, r⟩
theorem S4_0 (i j k : Nat) (s : List Nat) : (S3 bn i j k s ∨ (s = five (qO i) (3 * j) (3 * k + 1) none none ∧ okS bn s)) ↔ S4 bn i j k 0 s := ⟨Or.inl, fun h => by rcases h with h | ⟨_, h, _⟩; exact h; exact absurd h (Nat.not_lt_zero _)⟩
theorem S4_7 (i j k : Nat) (hj : j < 6) (hk : k < 6) (s : List Nat) : S4 bn i j k 7 s ↔ S3 bn i j (k + 1) s := by
  constructor
  · rintro (((h | ⟨k', h, r⟩) | ⟨e, h⟩) | ⟨a', h, o', r⟩)
    · exact Or.inl h
    · exact Or.inr ⟨k', by omega, r⟩
    · exact Or.inr ⟨k, by omega, none, none, ⟨⟨by omega, by omega⟩, ⟨by omega, by omega⟩, by simp, by simp, by simp⟩, e, h⟩
    · exact Or.inr ⟨k, by omega, qO a', some o', r⟩
  · rintro (h | ⟨k', h, p, o, hg, r⟩)
    · exact Or.inl (Or.inl (Or.inl h))
    · rcases Nat.lt_succ_iff_lt_or_eq.mp h with h | rfl
      · exact Or.inl (Or.inl (Or.inr ⟨k', h, p, o, hg, r⟩))
      · cases o with
        | none =>
          have := hg.2.2.2.2 rfl
          subst this
          exact Or.inl (Or.inr r)
        | some o =>
          obtain ⟨a, ha, rfl⟩ := qO_of (q := p) hg.2.2.1
          exact Or.inr ⟨a, ha, o, hg, r⟩
theorem S5_0 (i j k a : Nat) (s : List Nat) : S4 bn i j k a s ↔ S5 bn i j k a 0 s := ⟨Or.inl, fun h => by rcases h with h | ⟨_, h, _⟩; exact h; exact absurd h (Nat.not_lt_zero _)⟩
theorem S5_s (i j k a b : Nat) (s : List Nat) : (S5 bn i j k a b s ∨ (s = five (qO i) (3 * j) (3 * k + 1) (qO a) (some (3 * b)) ∧ okS bn s)) ↔ S5 bn i j k a (b + 1) s := by
  constructor
  · rintro ((h | ⟨b', h, r⟩) | h)
    · exact Or.inl h
    · exact Or.inr ⟨b', by omega, r⟩
    · exact Or.inr ⟨b, by omega, h⟩
  · rintro (h | ⟨b', h, r⟩)
    · exact Or.inl (Or.inl h)
    · rcases Nat.lt_succ_iff_lt_or_eq.mp h with h | rfl
      · exact Or.inl (Or.inr ⟨b', h, r⟩)
      · exact Or.inr r
theorem S5_6 (i j k a : Nat) (hj : j < 6) (hk : k < 6) (ha : a < 7) (s : List Nat) : S5 bn i j k a 6 s ↔ S4 bn i j k (a + 1) s := by
  constructor
  · rintro ((h | ⟨a', h, r⟩) | ⟨b', h, r⟩)
    · exact Or.inl h
    · exact Or.inr ⟨a', by omega, r⟩
    · exact Or.inr ⟨a, by omega, 3 * b', ⟨⟨by omega, by omega⟩, ⟨by omega, by omega⟩, qO_ok ha, fun w hw => by cases hw; omega, by simp⟩, r⟩
  · rintro (h | ⟨a', h, o', hg, r⟩)
    · exact Or.inl (Or.inl h)
    · rcases Nat.lt_succ_iff_lt_or_eq.mp h with h | rfl
      · exact Or.inl (Or.inr ⟨a', h, o', hg, r⟩)
      · have := hg.2.2.2.1 o' rfl
        obtain ⟨b', hb, rfl⟩ : ∃ b', b' < 6 ∧ o' = 3 * b' := ⟨o' / 3, by omega, by omega⟩
        exact Or.inr ⟨b', hb, r⟩
end SETS
theorem BestOn.add {sm : List Nat → Nat} {bn : Nat → Bool} {S : List Nat → Prop} {P : Nat} {b c : List Nat} (h : BestOn sm S P b) :
    (¬ okS bn c → BestOn sm (fun s => S s ∨ (s = c ∧ okS bn s)) P b) ∧ (okS bn c → isBetterB (sm c) c P b = true → BestOn sm (fun s => S s ∨ (s = c ∧ okS bn s)) (sm c + 1) c) ∧ (okS bn c → isBetterB (sm c) c P b = false → BestOn sm (fun s => S s ∨ (s = c ∧ okS bn s)) P b) := by
  refine ⟨fun hn => h.congr fun s => ⟨Or.inl, fun z => ?_⟩, fun ho hb => (h.up ((isBetterB_iff h).mp hb)).congr fun s => ?_, fun ho hb => (h.same (c := c) fun z => ?_).congr fun s => ?_⟩
  · rcases z with z | ⟨rfl, z⟩
    · exact z
    · exact absurd z hn
  · exact ⟨fun z => z.imp id fun e => ⟨e, by rw [e]; exact ho⟩, fun z => z.imp id And.left⟩
  · rw [(isBetterB_iff h).mpr z] at hb
    cases hb
  · exact ⟨fun z => z.imp id fun e => ⟨e, by rw [e]; exact ho⟩, fun z => z.imp id And.left⟩
theorem smS_le {gv : Nat → Nat} {s : List Nat} (h : ∀ w ∈ s, gv w ≤ 3) : smS gv s ≤ 3 * s.length := by
  induction s with
  | nil => simp [smS]
  | cons a s ih =>
    have h1 := h a List.mem_cons_self
    have h2 := ih fun w hw => h w (List.mem_cons_of_mem _ hw)
    simp only [smS, List.map_cons, List.sum_cons, List.length_cons] at *
    omega
theorem Pre.push {f : Nat → Int32} {s : List Nat} {w n : Nat} (h : Pre f s) (hn : n = s.length) : Pre (upd f n (nI w)) (s ++ [w]) := by
  intro k hk
  subst hn
  unfold upd
  by_cases e : k = s.length
  · subst e
    rw [if_pos rfl]
    simp [List.getD_eq_getElem?_getD]
  · rw [if_neg e]
    have hl : k < s.length := by simp at hk; omega
    rw [h k hl]
    simp [List.getD_eq_getElem?_getD, List.getElem?_append_left hl]
theorem Pre.nil {f : Nat → Int32} : Pre f [] := fun k hk => absurd hk (by simp)
theorem okS_five {bn : Nat → Bool} {q : Option Nat} {n v : Nat} {p o : Option Nat} (hq : qOk q) (hg : GT n v p o) : okS bn (five q n v p o) ↔ (decide (some n ≠ o ∧ (q ≠ p ∨ q = none)) && (five q n v p o).all (fun w => !bn w)) = true := by
  unfold okS
  rw [five_sent hq hg, Bool.and_eq_true, decide_eq_true_eq, List.all_eq_true]
  simp only [Bool.not_eq_true']
theorem BestOn.info {bn : Nat → Bool} {gv : Nat → Nat} {S : List Nat → Prop} {P : Nat} {b : List Nat} (h : BestOn (smS gv) S P b) (hS : ∀ s, S s → okS bn s) (hv : ∀ w, gv w ≤ 3) : P ≤ 16 ∧ b.length ≤ 5 ∧ ∀ w ∈ b, w < 18 := by
  rcases h with ⟨h1, h2, -⟩ | ⟨h1, h2, -⟩
  · subst h2; simp; omega
  · have h3 := hS _ h2
    have h4 := Sent_len h3.1
    have h5 := smS_le (gv := gv) (s := b) fun w _ => hv w
    exact ⟨by omega, h4.2, h3.1.2.2⟩
/-- what a word brings at a listener; at the first ones; at all -/
def gainW (g : GS) (w l : Nat) : Nat := if gThere g l = true ∧ bitI (g.1 (11 + l)) w = true ∧ w ∉ gRem g then 1 else 0
def gainN (g : GS) (w : Nat) : Nat → Nat
  | 0 => 0
  | j + 1 => gainN g w j + gainW g w j
def gain (g : GS) (w : Nat) : Nat := gainN g w 3
theorem gainW_le (g : GS) (w l : Nat) : gainW g w l ≤ 1 := by unfold gainW; split <;> omega
theorem gain_le (g : GS) (w : Nat) : gain g w ≤ 3 := by
  have := gainW_le g w 0
  have := gainW_le g w 1
  have := gainW_le g w 2
  simp only [gain, gainN]
  omega
def bnG (g : GS) (t : Nat) : Nat → Bool := fun w => decide (w ∈ gB g t)
theorem S1_ok {bn : Nat → Bool} {i : Nat} {s : List Nat} (h : S1 bn i s) : okS bn s := by
  obtain ⟨_, _, _, _, _, _, _, _, h⟩ := h; exact h
theorem S2_ok {bn : Nat → Bool} {i j : Nat} {s : List Nat} (h : S2 bn i j s) : okS bn s := by
  rcases h with h | ⟨_, _, _, _, _, _, _, h⟩
  · exact S1_ok h
  · exact h
theorem S3_ok {bn : Nat → Bool} {i j k : Nat} {s : List Nat} (h : S3 bn i j k s) : okS bn s := by
  rcases h with h | ⟨_, _, _, _, _, _, h⟩
  · exact S2_ok h
  · exact h
theorem S4_ok {bn : Nat → Bool} {i j k a : Nat} {s : List Nat} (h : S4 bn i j k a s) : okS bn s := by
  rcases h with (h | ⟨_, h⟩) | ⟨_, _, _, _, _, h⟩
  · exact S3_ok h
  · exact h
  · exact h
theorem S5_ok {bn : Nat → Bool} {i j k a b : Nat} {s : List Nat} (h : S5 bn i j k a b s) : okS bn s := by
  rcases h with h | ⟨_, _, _, h⟩
  · exact S4_ok h
  · exact h
