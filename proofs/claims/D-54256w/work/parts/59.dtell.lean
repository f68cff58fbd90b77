/-! TELLING, on the class's side: plain laws -/
set_option maxRecDepth 100000
theorem gLis_end {g : GS} {s : List Nat} {l i : Nat} (hl : l < 3) (h : ∀ m, l < m → m < 3 → i ≠ 20 + m ∧ i ≠ 14 + m ∧ i ≠ 17 + m) : (gLis g s 3).1 i = (gLis1 g (gLis g s l) s l).1 i := by
  rcases (show l = 0 ∨ l = 1 ∨ l = 2 by omega) with rfl | rfl | rfl
  · show (gLis1 g (gLis1 g (gLis1 g (gLis g s 0) s 0) s 1) s 2).1 i = _
    rw [gLis1_n (h 2 (by decide) (by decide)), gLis1_n (h 1 (by decide) (by decide))]
  · show (gLis1 g (gLis1 g (gLis g s 1) s 1) s 2).1 i = _
    rw [gLis1_n (h 2 (by decide) (by decide))]
  · rfl
def hrN (g : GS) (s : List Nat) (l : Nat) : Nat := if gThere g l then hearN g l s else 0
theorem gLis_14 {g : GS} {s : List Nat} {l : Nat} (hl : l < 3) : (gLis g s 3).1 (14 + l) = hrB (!gThere g l) (g.1 (14 + l)) (hrN g s l) := by
  rw [gLis_end hl (by omega)]
  unfold gLis1 hrB hrN
  rw [gLis_there hl]
  cases h : gThere g l
  · simp
    exact gLis_n l (by omega) (by omega)
  · simp only [if_true, Bool.not_true]
    rw [gset_n (by omega), gset_s, gLis_n l (by omega) (by omega)]
    simp
theorem gLis_20 {g : GS} {s : List Nat} {l : Nat} (hl : l < 3) : (gLis g s 3).1 (20 + l) = g.1 (20 + l) + nI (hrN g s l) := by
  rw [gLis_end hl (by omega)]
  unfold gLis1 hrN
  rw [gLis_there hl]
  cases h : gThere g l
  · simp
    rw [gLis_n l (by omega) (by omega)]
    show _ = g.1 (20 + l) + 0
    rw [Int32.add_zero]
  · simp only [if_true]
    rw [gset_n (by omega), gset_n (by omega), gset_s, gLis_n l (by omega) (by omega)]
theorem gLis_17 {g : GS} {s : List Nat} {l : Nat} (hl : l < 3) (h8 : ∃ m, 1 ≤ m ∧ m ≤ 9 ∧ g.1 8 = nI m) : (!gThere (gLis g s 3) l) = hrG (!gThere g l) (g.1 (14 + l)) (hrN g s l) (g.1 8) := by
  have e : (gLis g s 3).1 (17 + l) = (gLis1 g (gLis g s l) s l).1 (17 + l) := gLis_end hl (by omega)
  unfold gThere at *
  rw [e]
  unfold gLis1 hrG hrB hrN
  rw [gLis_there hl]
  obtain ⟨m, hm1, hm9, hm⟩ := h8
  cases h : gThere g l
  · simp
    rw [gLis_n l (by omega) (by omega)]
    have h2 := of_decide_eq_false h
    simp [h2]
  · simp only [if_true, Bool.not_true]
    have h2 := of_decide_eq_true h
    rw [gset_s, gLis_n (i := 14 + l) l (by omega) (by omega), gLis_n (i := 8) l (by omega) (by omega)]
    by_cases hz : hearN g l s = 0
    · by_cases hb : g.1 8 ≤ g.1 (14 + l) + nI 1
      · simp [hz, hb, h2]
        decide
      · simp [hz, hb, h2]
    · have : ¬ g.1 8 ≤ nI 0 := by
        rw [hm, Int32.le_iff_toInt_le, nI_toInt (by omega), nI_toInt (by decide)]
        omega
      simp [hz, h2, this]
theorem gTell_n {g : GS} {s : List Nat} {i : Nat} (h : i ≠ 2 ∧ i ≠ 4 ∧ i ≠ 23 + 15 * gTurn g ∧ i ≠ 24 + 15 * gTurn g) : (gTell g s).1 i = (gLis g s 3).1 i := by
  unfold gTell
  rw [gset_n h.1, gset_n h.2.1, gset_n h.2.2.2, gset_n h.2.2.1]
  rfl
theorem gTell_m {g : GS} {s : List Nat} {i : Nat} (h : i ≠ 2 ∧ i ≠ 4 ∧ i ≠ 23 + 15 * gTurn g ∧ i ≠ 24 + 15 * gTurn g) (h2 : i < 14 ∨ 23 ≤ i) : (gTell g s).1 i = g.1 i := by
  rw [gTell_n h]
  exact gLis_n 3 (by decide) (by omega)
theorem gTell_sc {g : GS} {s : List Nat} : (gTell g s).1 (23 + 15 * gTurn g) = g.1 (23 + 15 * gTurn g) + nI (gPts g s 3) := by
  unfold gTell
  rw [gset_n (by omega), gset_n (by omega), gset_n (by omega), gset_s]
  congr 1
  exact gLis_n 3 (by decide) (by omega)
theorem gTell_so {g : GS} {s : List Nat} : (gTell g s).1 (24 + 15 * gTurn g) = g.1 (24 + 15 * gTurn g) + nI 1 := by
  unfold gTell
  rw [gset_n (by omega), gset_n (by omega), gset_s]
  congr 1
  exact gLis_n 3 (by decide) (by omega)
theorem gTell_4 {g : GS} {s : List Nat} : (gTell g s).1 4 = g.1 4 + nI 1 := by
  unfold gTell
  rw [gset_n (by decide), gset_s]
  congr 1
  exact gLis_n 3 (by decide) (by omega)
theorem gTell_2 {g : GS} {s : List Nat} : (gTell g s).1 2 = nI 1 := by
  unfold gTell
  rw [gset_s]
theorem gTell_B {g : GS} {s : List Nat} {u : Nat} : gB (gTell g s) u = gB g u := by
  have e : (gLis g s 3).2 = g.2 := gLis_2 3
  show (gLis g s 3).2.1 u = g.2.1 u
  rw [e]
theorem gTell_L {g : GS} {s : List Nat} {u : Nat} : gL (gTell g s) u = if u = gTurn g then s else gL g u := by
  have e : (gLis g s 3).2 = g.2 := gLis_2 3
  show (if u = gTurn g then s else (gLis g s 3).2.2.1 u) = _
  rw [e]
  rfl
theorem gTell_log {g : GS} {s : List Nat} : (gTell g s).2.2.2 = (s :: g.2.2.2).take 6 := by
  have e : (gLis g s 3).2 = g.2 := gLis_2 3
  show (s :: (gLis g s 3).2.2.2).take 6 = _
  rw [e]
def lisT (g : GS) (s : List Nat) (l : Nat) : va_E := .inr (7, [.int (g.1 (11 + l)), .int (hrB (!gThere g l) (g.1 (14 + l)) (hrN g s l)), .int (bI (hrG (!gThere g l) (g.1 (14 + l)) (hrN g s l) (g.1 8))), .int (g.1 (20 + l) + nI (hrN g s l))])
theorem lisO_tell {g : GS} {s : List Nat} {l : Nat} (hl : l < 3) (h8 : ∃ m, 1 ≤ m ∧ m ≤ 9 ∧ g.1 8 = nI m) : lisO (gTell g s) l = lisT g s l := by
  have e : gThere (gTell g s) l = gThere (gLis g s 3) l := by
    unfold gThere
    rw [gTell_n (by omega)]
  unfold lisO lisT
  rw [e, gLis_17 hl h8, gTell_n (i := 11 + l) (by omega), gTell_n (i := 14 + l) (by omega), gTell_n (i := 20 + l) (by omega), gLis_14 hl, gLis_20 hl, gLis_n (i := 11 + l) 3 (by decide) (by omega)]
theorem duL_tell {G : EVT} {Z : List (Nat × List Nat)} {d st tl ll to tm ox l0 l1 l2 : Nat} {fT fL : Nat → Option Nat} {g : GS} {s : List Nat} {tv : Nat} {sp ps ov : Bool} (h8 : ∃ m, 1 ≤ m ∧ m ≤ 9 ∧ g.1 8 = nI m) : duL G Z d st tl ll to tm ox l0 l1 l2 fT fL (gTell g s) (gTurn g) tv sp ps ov =
    [pts d (.inr (4, [.ref st, .ref tl, .ref ll, .ref to, .int (g.1 4 + nI 1), .int (nI tv), .int (g.1 3), .int (bI sp), .int (bI ps), .int (bI ov)])), pts tl (.inl (G.2.1 6, 2, .inr (.inr (.inr (.inr fT))))), pts ll (.inl (G.2.1 7, 3, .inr (.inr (.inr (.inr fL))))), tlrA G Z tm (g.1 (23 + 15 * gTurn g) + nI (gPts g s 3)) (g.1 (24 + 15 * gTurn g) + nI 1) s (gB g (gTurn g)), tlrG G Z ox g (1 - gTurn g), pts l0 (lisT g s 0), pts l1 (lisT g s 1), pts l2 (lisT g s 2), stoA G Z to ((s :: g.2.2.2).take 6)] := by
  have ht := gTurn_lt g
  unfold duL tlrG
  rw [lisO_tell (by decide) h8, lisO_tell (by decide) h8, lisO_tell (by decide) h8, gTell_4, gTell_m (i := 3) (by omega) (by omega), gTell_sc, gTell_so, gTell_B, gTell_B, gTell_L, gTell_L, if_pos rfl, if_neg (by omega), gTell_m (i := 23 + 15 * (1 - gTurn g)) (by omega) (by omega), gTell_m (i := 24 + 15 * (1 - gTurn g)) (by omega) (by omega), gTell_log]
theorem gv_hrN {g : GS} {s : List Nat} {l : Nat} (hn : s.Nodup) (hs : ∀ w ∈ s, w < 18) : gvN (!gThere g l) (g.1 (11 + l)) (fun w => decide (w ∈ s.filter (fun w => !decide (w ∈ gRem g)))) = hrN g s l := by
  unfold gvN hrN
  rw [hear_cnt hn hs]
  cases gThere g l <;> simp
theorem duOk_tell {g : GS} {s : List Nat} {ps ov : Bool} (ho : gOk g) (h6 : g.1 6 = bI ps) (h5 : g.1 5 = bI ov) : duOk (gTell g s) (gTurn g) true ps ov := by
  have ht := gTurn_lt g
  refine ⟨ht, fun _ => ?_, gTell_2, ?_, ?_⟩
  · rw [gTell_m (by omega) (by omega)]; exact gTurn_eq ho
  · rw [gTell_m (by omega) (by omega)]; exact h6
  · rw [gTell_m (by omega) (by omega)]; exact h5
theorem i2c_nI {x : Nat} (h : x < 65536) : ((nI x).toUInt32 % 65536).toInt32 = nI x := by
  rw [pk_char]
  congr 1
  show (BitVec.ofNat 32 x).toNat % 65536 = x
  rw [BitVec.toNat_ofNat]
  omega
