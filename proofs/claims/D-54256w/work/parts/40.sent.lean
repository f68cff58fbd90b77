/-! THE CLASS'S SIDE: sets of words, sentences: plain laws -/
set_option maxRecDepth 100000
/-- the set of the words of a list -/
def msk (l : List Nat) : Int32 := mkS (fun w => decide (w ∈ l)) 18
theorem bitI_msk {l : List Nat} {k : Nat} (hk : k < 32) : bitI (msk l) k = (decide (k < 18) && decide (k ∈ l)) := bitI_mkS _ (by omega) hk
theorem msk_nil : msk [] = nI 0 := bitI_ext fun k hk => by rw [bitI_msk hk, bitI_0]; simp
theorem msk_app {l : List Nat} {w : Nat} (hw : w < 18) : msk l ||| nI 1 <<< (nI w &&& 31) = msk (l ++ [w]) := by
  apply bitI_ext
  intro k hk
  rw [bitI_or, bitI_msk hk, bitI_msk hk, bitI_1 (by omega) hk]
  by_cases e : k = w
  · subst e; simp [hw]
  · simp [e]
theorem msk_or {l k : List Nat} : msk l ||| msk k = msk (l ++ k) := by
  apply bitI_ext
  intro i hi
  rw [bitI_or, bitI_msk hi, bitI_msk hi, bitI_msk hi]
  by_cases h : i < 18 <;> simp [h]
theorem bitI_and (x y : Int32) (k : Nat) : bitI (x &&& y) k = (bitI x k && bitI y k) := by
  unfold bitI
  rw [Int32.toBitVec_and, BitVec.getLsbD_and]
theorem bitI_m1 {k : Nat} (hk : k < 32) : bitI (-1) k = true := by
  unfold bitI
  have : ∀ k : Fin 32, (-1 : Int32).toBitVec.getLsbD k.val = true := by decide
  exact this ⟨k, hk⟩
theorem bitI_xor (x y : Int32) (k : Nat) : bitI (x ^^^ y) k = (bitI x k ^^ bitI y k) := by
  unfold bitI
  rw [Int32.toBitVec_xor, BitVec.getLsbD_xor]
/-- the words of l that aren't in k -/
theorem msk_diff {l k : List Nat} : msk l &&& (msk k ^^^ (-1)) = msk (l.filter (fun w => !decide (w ∈ k))) := by
  apply bitI_ext
  intro i hi
  rw [bitI_and, bitI_xor, bitI_m1 hi, bitI_msk hi, bitI_msk hi, bitI_msk hi]
  by_cases h : i < 18 <;> simp [h]
theorem msk_inter {l k : List Nat} : msk l &&& msk k = msk (l.filter (fun w => decide (w ∈ k))) := by
  apply bitI_ext
  intro i hi
  rw [bitI_and, bitI_msk hi, bitI_msk hi, bitI_msk hi]
  by_cases h : i < 18 <;> simp [h]
theorem msk_0 {l : List Nat} (hl : ∀ w ∈ l, w < 18) : msk l = nI 0 ↔ l = [] := by
  constructor
  · intro h
    cases l with
    | nil => rfl
    | cons w l =>
      have h1 := bitI_msk (l := w :: l) (k := w) (by have := hl w List.mem_cons_self; omega)
      rw [h, bitI_0] at h1
      have := hl w List.mem_cons_self
      simp [this] at h1
  · rintro rfl
    exact msk_nil
theorem msk_congr {l k : List Nat} (h : ∀ w, w < 18 → (w ∈ l ↔ w ∈ k)) : msk l = msk k := by
  apply bitI_ext
  intro i hi
  rw [bitI_msk hi, bitI_msk hi]
  by_cases e : i < 18
  · simp [h i e]
  · simp [e]
/-- the grammar's answer -/
def gNI (q w : Nat) : Int32 := if gNext q w = 6 then -1 else nI (gNext q w)
theorem gNI_m {q w : Nat} (h : gNext q w ≤ 6) : gNI q w = -1 ↔ gNext q w = 6 := by
  unfold gNI
  split
  · simp [*]
  · constructor
    · intro e
      exact absurd (show nI (gNext q w) < 0 by rw [e]; decide) (nI_gZ (by omega))
    · intro e; contradiction
theorem wOf {C : List Nat} {k : Nat} (h : ∀ w ∈ C, 97 ≤ w ∧ w < 115) (hk : k < C.length) : 97 ≤ C.getD k 0 ∧ C.getD k 0 < 115 := h _ (getD_mem hk)
theorem tW_getD {C : List Nat} {k : Nat} (hk : k < C.length) : (tW C).getD k 0 = C.getD k 0 - 97 := by
  unfold tW
  rw [List.getD_eq_getElem?_getD, List.getD_eq_getElem?_getD, List.getElem?_map, List.getElem?_eq_getElem hk]
  rfl
theorem sub97 {x : Nat} (h : 97 ≤ x) : nI x - nI 97 = nI (x - 97) := pk_sub h
theorem msk_take {C : List Nat} {k : Nat} (h : ∀ w ∈ C, 97 ≤ w ∧ w < 115) (hk : k < C.length) : msk (tW (C.take k)) ||| nI 1 <<< ((nI (C.getD k 0) - nI 97) &&& 31) = msk (tW (C.take (k + 1))) := by
  have h1 := wOf h hk
  rw [sub97 h1.1, msk_app (by omega), tW_take hk]
theorem Pre.take_same {f f2 : Nat → Int32} {s : List Nat} (h : Pre f s) (e : ∀ k, k < s.length → f2 k = f k) : Pre f2 s := fun k hk => (e k hk).trans (h k hk)
theorem out4 {x : Int32} (h0 : ¬ x = nI 0) (h1 : ¬ x = nI 1) (h2 : ¬ x = nI 2) (h3 : ¬ x = nI 3) : ¬ (0 ≤ x.toInt ∧ x.toInt ≤ 3) := by
  rintro ⟨a, b⟩
  obtain ⟨k, h4, h5, h6⟩ := inR_lo (y := x) (a := 0) (b := 3) (decide_eq_true ⟨a, b⟩)
  rcases (show k = 0 ∨ k = 1 ∨ k = 2 ∨ k = 3 by omega) with rfl | rfl | rfl | rfl
  · exact h0 h6
  · exact h1 h6
  · exact h2 h6
  · exact h3 h6
theorem set_out {x : Int32} (h0 : ¬ x = nI 0) (h1 : ¬ x = nI 1) (h2 : ¬ x = nI 2) (h3 : ¬ x = nI 3) : inR x.toInt 0 3 = false := decide_eq_false (out4 h0 h1 h2 h3)
