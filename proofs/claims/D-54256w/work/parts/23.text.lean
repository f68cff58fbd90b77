/-! TEXTS, settings, as values -/
set_option maxRecDepth 100000
/-- a sign's word -/
def txW (c : Nat) : Option Nat := if 97 ≤ c ∧ c < 115 then some (c - 97) else none
def tW (T : List Nat) : List Nat := T.map (fun c => c - 97)
/-- where the text errs, read from a state on, some words seen; none -/
def rd (q : Nat) (seen : List Nat) : List Nat → Option Nat
  | [] => if q = 3 ∨ q = 5 then none else some 0
  | c :: cs => match txW c with
    | none => some 0
    | some w => if gNext q w ≠ 6 ∧ w ∉ seen then (rd (gNext q w) (seen ++ [w]) cs).map (· + 1) else some 0
def errI (T : List Nat) : Int32 := match rd 0 [] T with
  | none => -1
  | some k => nI k
theorem gNext_gt (q w : Nat) (hq : q < 6) : q < gNext q w ∧ gNext q w ≤ 6 := by
  unfold gNext
  repeat' split
  all_goals omega
theorem gNext_6 {q w : Nat} (hq : 6 ≤ q) : gNext q w = 6 := by
  unfold gNext
  repeat' split
  all_goals omega
theorem gRun_ge : ∀ (s : List Nat) (q : Nat), q ≤ 6 → min 6 (q + s.length) ≤ gRun q s
  | [], q, h => by simp [gRun]; omega
  | w :: s, q, h => by
    rw [gRun, List.length_cons]
    by_cases hq : q < 6
    · have h1 := gNext_gt q w hq
      have h2 := gRun_ge s (gNext q w) h1.2
      omega
    · rw [gNext_6 (by omega)]
      have h2 := gRun_ge s 6 (by omega)
      omega
theorem gRun_le : ∀ (s : List Nat) (q : Nat), q ≤ 6 → gRun q s ≤ 6
  | [], q, h => h
  | w :: s, q, h => by
    rw [gRun]
    by_cases hq : q < 6
    · exact gRun_le s _ (gNext_gt q w hq).2
    · rw [gNext_6 (by omega)]
      exact gRun_le s 6 (by omega)
theorem gRun_len {s : List Nat} (h : gRun 0 s ≠ 6) : s.length ≤ 5 := by
  have h1 := gRun_ge s 0 (by omega)
  have h2 := gRun_le s 0 (by omega)
  omega
/-- no error: a sentence -/
theorem rd_none : ∀ (T : List Nat) (q : Nat) (seen : List Nat), rd q seen T = none → (gRun q (tW T) = 3 ∨ gRun q (tW T) = 5) ∧ (∀ w ∈ tW T, w < 18) ∧ (seen.Nodup → (seen ++ tW T).Nodup)
  | [], q, seen, h => by
    unfold rd at h
    split at h
    · refine ⟨by simpa [tW, gRun] using (by assumption), by simp [tW], fun hn => by simpa [tW] using hn⟩
    · cases h
  | c :: cs, q, seen, h => by
    unfold rd at h
    cases hw : txW c with
    | none => rw [hw] at h; cases h
    | some w =>
      rw [hw] at h
      dsimp only at h
      split at h
      · rename_i hc
        have h1 : rd (gNext q w) (seen ++ [w]) cs = none := by simpa using h
        obtain ⟨i1, i2, i3⟩ := rd_none cs _ _ h1
        have e : c - 97 = w ∧ w < 18 := by
          unfold txW at hw
          split at hw
          · cases hw; omega
          · cases hw
        have et : tW (c :: cs) = w :: tW cs := by simp [tW, e.1]
        rw [et]
        refine ⟨i1, fun v hv => ?_, fun hn => ?_⟩
        · rcases List.mem_cons.mp hv with r | r
          · rw [r]; exact e.2
          · exact i2 v r
        · have := i3 (by rw [List.nodup_append]; exact ⟨hn, by simp, fun a ha b hb => by rw [List.mem_singleton.mp hb]; intro e9; rw [e9] at ha; exact hc.2 ha⟩)
          simpa using this
      · cases h
theorem rd_sent {T : List Nat} (h : rd 0 [] T = none) : Sent (tW T) := by
  obtain ⟨h1, h2, h3⟩ := rd_none T 0 [] h
  exact ⟨h1, by simpa using h3 (by simp), h2⟩
theorem rd_lt : ∀ (T : List Nat) (q : Nat) (seen : List Nat) (k : Nat), rd q seen T = some k → k ≤ T.length
  | [], q, seen, k, h => by
    unfold rd at h
    split at h
    · cases h
    · cases h; simp
  | c :: cs, q, seen, k, h => by
    unfold rd at h
    cases hw : txW c with
    | none => rw [hw] at h; cases h; simp
    | some w =>
      rw [hw] at h
      dsimp only at h
      split at h
      · cases h1 : rd (gNext q w) (seen ++ [w]) cs with
        | none => rw [h1] at h; cases h
        | some j =>
          rw [h1] at h
          have := rd_lt cs _ _ j h1
          simp at h
          simp
          omega
      · cases h; simp
theorem errI_none {T : List Nat} (hT : T.length < 1000) : errI T = -1 ↔ rd 0 [] T = none := by
  unfold errI
  cases h : rd 0 [] T with
  | none => simp
  | some k =>
    have := rd_lt T 0 [] k h
    constructor
    · intro e
      exact absurd (show nI k < 0 by rw [show nI k = -1 from e]; decide) (nI_pos (by omega))
    · intro e; cases e
/-- a step of reading -/
theorem rd_step {T seen : List Nat} {q k w : Nat} (h : rd 0 [] T = (rd q seen (T.drop k)).map (· + k)) (hk : k < T.length) (hw : txW (T.getD k 0) = some w) (hn : gNext q w ≠ 6) (hs : w ∉ seen) : rd 0 [] T = (rd (gNext q w) (seen ++ [w]) (T.drop (k + 1))).map (· + (k + 1)) := by
  have e : T.drop k = T.getD k 0 :: T.drop (k + 1) := by
    rw [List.getD_eq_getElem?_getD, List.getElem?_eq_getElem hk]
    exact List.drop_eq_getElem_cons hk
  rw [h, e, rd, hw]
  dsimp only
  rw [if_pos ⟨hn, hs⟩, Option.map_map]
  congr 1
  funext x
  show x + 1 + k = x + (k + 1)
  omega
theorem rd_stop {T seen : List Nat} {q k : Nat} (h : rd 0 [] T = (rd q seen (T.drop k)).map (· + k)) (hk : k < T.length) (hw : ∀ w, txW (T.getD k 0) = some w → ¬ (gNext q w ≠ 6 ∧ w ∉ seen)) : rd 0 [] T = some k := by
  have e : T.drop k = T.getD k 0 :: T.drop (k + 1) := by
    rw [List.getD_eq_getElem?_getD, List.getElem?_eq_getElem hk]
    exact List.drop_eq_getElem_cons hk
  rw [h, e, rd]
  cases h2 : txW (T.getD k 0) with
  | none => simp
  | some w =>
    dsimp only
    rw [if_neg (hw w h2)]
    simp
theorem rd_end {T seen : List Nat} {q : Nat} (h : rd 0 [] T = (rd q seen (T.drop T.length)).map (· + T.length)) : rd 0 [] T = if q = 3 ∨ q = 5 then none else some T.length := by
  rw [h, List.drop_length, rd]
  split <;> simp
/-- the sign as an int: its word's number -/
theorem txW_in {c : Nat} (hc : c < 256) : inR (nI c - nI 97).toInt 0 17 = (txW c).isSome ∧ ∀ w, txW c = some w → nI c - nI 97 = nI w := by
  have e : (nI c - nI 97).toInt = (c : Int) - 97 := pk_sub_toInt (a := c) (b := 97) (by omega) (by omega)
  unfold inR txW
  rw [e]
  constructor
  · split
    · simp only [Option.isSome_some, decide_eq_true_eq]; omega
    · simp only [Option.isSome_none, decide_eq_false_iff_not]; omega
  · intro w hw
    split at hw
    · cases hw
      exact pk_sub (by omega)
    · cases hw
theorem txW_w {c w : Nat} (h : txW c = some w) : w = c - 97 ∧ w < 18 := by
  unfold txW at h
  split at h
  · cases h; omega
  · cases h
/-- settings: which values they take -/
def setLo (x : Int32) : Int := if x = nI 0 then 0 else if x = nI 3 then 5 else 1
def setHi (x : Int32) : Int := if x = nI 0 then 6 else if x = nI 1 then 9 else if x = nI 2 then 5 else 99
def setOk (x y : Int32) : Bool := inR x.toInt 0 3 && inR y.toInt (setLo x) (setHi x)
theorem tW_take {T : List Nat} {k : Nat} (hk : k < T.length) : tW (T.take (k + 1)) = tW (T.take k) ++ [T.getD k 0 - 97] := by
  unfold tW
  rw [List.take_succ_eq_append_getElem hk, List.map_append, List.getD_eq_getElem?_getD, List.getElem?_eq_getElem hk]
  rfl
theorem kd3 (w d : Nat) (hd : d < 3) : nI (w % 3) = nI d ↔ w % 3 = d := nI_eq (by have := Nat.mod_lt w (show 0 < 3 by decide); omega) (by omega)
theorem kd30 {w : Nat} (h2 : ¬ nI (w % 3) = nI 2) (h1 : ¬ nI (w % 3) = nI 1) : w % 3 = 0 := by
  have := Nat.mod_lt w (show 0 < 3 by decide)
  rw [kd3 w 2 (by decide)] at h2
  rw [kd3 w 1 (by decide)] at h1
  omega
theorem gN_may {q w : Nat} (hq : q ≤ 5) (h : (w % 3 = 0 ∧ q ≠ 2 ∧ q ≠ 5) ∨ (w % 3 = 1 ∧ q = 2) ∨ (w % 3 = 2 ∧ (q = 0 ∨ q = 3))) : gNext q w ≠ 6 := by
  unfold gNext
  repeat' split
  all_goals omega
theorem gN_not {q w : Nat} (hq : q ≤ 5) (h : ¬ ((w % 3 = 0 ∧ q ≠ 2 ∧ q ≠ 5) ∨ (w % 3 = 1 ∧ q = 2) ∨ (w % 3 = 2 ∧ (q = 0 ∨ q = 3)))) : gNext q w = 6 := by
  have := Nat.mod_lt w (show 0 < 3 by decide)
  unfold gNext
  repeat' split
  all_goals omega
theorem gN_2 {q w : Nat} (hq : q ≤ 5) (hn : gNext q w ≠ 6) (h : w % 3 = 2) : q + 1 = gNext q w := by
  unfold gNext at *
  repeat' split
  all_goals simp_all
  all_goals omega
theorem gN_1 {q w : Nat} (hq : q ≤ 5) (hn : gNext q w ≠ 6) (h : w % 3 = 1) : 3 = gNext q w := by
  unfold gNext at *
  repeat' split
  all_goals simp_all
theorem gN_0a {q w : Nat} (hq : q ≤ 5) (hn : gNext q w ≠ 6) (h : w % 3 = 0) (h2 : q < 2) : 2 = gNext q w := by
  unfold gNext at *
  repeat' split
  all_goals simp_all
  all_goals omega
theorem gN_0b {q w : Nat} (hq : q ≤ 5) (hn : gNext q w ≠ 6) (h : w % 3 = 0) (h2 : 2 ≤ q) : 5 = gNext q w := by
  unfold gNext at *
  repeat' split
  all_goals simp_all
  all_goals omega
theorem rd_may {c q d : Nat} {x kd : Int32} (h : (txW c = none ∧ kd = -1) ∨ ∃ w, txW c = some w ∧ x = nI w ∧ kd = nI (w % 3)) (hd : d < 3) (e : kd = nI d) (hn : ∀ w, w % 3 = d → gNext q w ≠ 6) : ∃ w, txW c = some w ∧ gNext q w ≠ 6 := by
  rcases h with ⟨_, h2⟩ | ⟨w, h1, _, h3⟩
  · exact absurd (show nI d < 0 by rw [← e, h2]; decide) (nI_pos (by omega))
  · exact ⟨w, h1, hn w ((kd3 w d hd).mp (h3.symm.trans e))⟩
theorem rd_not {c q : Nat} {x kd : Int32} (h : (txW c = none ∧ kd = -1) ∨ ∃ w, txW c = some w ∧ x = nI w ∧ kd = nI (w % 3)) (hn : ∀ w, kd = nI (w % 3) → gNext q w = 6) : ¬ ∃ w, txW c = some w ∧ gNext q w ≠ 6 := by
  rintro ⟨w, h1, h2⟩
  rcases h with ⟨h3, _⟩ | ⟨w2, h3, _, h4⟩
  · rw [h1] at h3; cases h3
  · rw [h1] at h3; cases h3; exact h2 (hn w h4)
