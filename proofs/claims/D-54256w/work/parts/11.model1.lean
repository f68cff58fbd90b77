set_option maxRecDepth 100000
set_option maxHeartbeats 600000 in
set_option maxRecDepth 100000 in
theorem m_X4_in (l : Launch) (G : EVT) (sz : Nat) (v : Int64) (lo : Int64) (hi : Int64)  : Met l yX4_in (ws_ yX4_in cX4_in 6 (some .boolean)) ({ frames := 0, cells := 0, slots := 0, locals := 0 } : Room) (SPc G (fun _ => False) sz [.long v, .long lo, .long hi] [] (fun _ => True)) (SQi G (fun _ => False) sz (fun (r : Int32) (u : Unit) => r = (bI (inR v.toInt lo.toInt hi.toInt))) (fun (u : Unit) => [])) (0) (0) (Fz (fun _ => False) sz) := by
  refine sp_of RX4 (by decide) rfl (Nat.le_of_ble_eq_true rfl) ?_
  intro p e s m args below meth c ls QQ hx hb hr hts hown hlocks hml hnm hsz hSep hΦ hE hS hl hQ
  subst hsz
  have hK := hE.1
  have hl : lv_has ls 6 [(0, .long v), (2, .long lo), (4, .long hi)] := hl
  refine lv_lload_n hx hb dX4_in_0 rfl (lv_at hl 0 rfl) ?_
  refine lv_lload_n hx hb dX4_in_1 rfl (lv_at hl 1 rfl) ?_
  refine W.lcmp hx hb dX4_in_2 ?_
  refine lv_if_lt (tgt := 17) hx hb dX4_in_3 (by decide) (fun c3 => ?_) (fun c3 => ?_)
  · refine lv_iconst (v := (nI 0)) hx hb dX4_in_17 (by decide) ?_
    rw [hQ]
    exact r_z (r := (nI 0)) (u := ()) hx hb hr (by decide) (by first | exact (bI_dt ⟨Int64.le_iff_toInt_le.mp (Int64.not_lt.mp (fun h => c3 ((lg_cmp_lt v lo).mpr h))), Int64.le_iff_toInt_le.mp (Int64.not_lt.mp (fun h => c10 ((lg_cmp_gt v hi).mpr h)))⟩).symm | exact (bI_df (fun h => absurd (Int64.le_iff_toInt_le.mpr h.2) (Int64.not_le.mpr ((lg_cmp_gt v hi).mp c10)))).symm | exact (bI_df (fun h => absurd (Int64.le_iff_toInt_le.mpr h.1) (Int64.not_le.mpr ((lg_cmp_lt v lo).mp c3)))).symm) hSep hS (by first | exact Nat.le_of_ble_eq_true rfl | omega | (dsimp only; omega)) (by first | exact Nat.le_of_ble_eq_true rfl | omega | (dsimp only; omega)) dX4_in_18 hlocks
  · refine lv_lload_n hx hb dX4_in_6 rfl (lv_at hl 0 rfl) ?_
    refine lv_lload hx hb dX4_in_7 (lv_at hl 2 rfl) ?_
    refine W.lcmp hx hb dX4_in_9 ?_
    refine lv_if_gt (tgt := 17) hx hb dX4_in_10 (by decide) (fun c10 => ?_) (fun c10 => ?_)
    · refine lv_iconst (v := (nI 0)) hx hb dX4_in_17 (by decide) ?_
      rw [hQ]
      exact r_z (r := (nI 0)) (u := ()) hx hb hr (by decide) (by first | exact (bI_dt ⟨Int64.le_iff_toInt_le.mp (Int64.not_lt.mp (fun h => c3 ((lg_cmp_lt v lo).mpr h))), Int64.le_iff_toInt_le.mp (Int64.not_lt.mp (fun h => c10 ((lg_cmp_gt v hi).mpr h)))⟩).symm | exact (bI_df (fun h => absurd (Int64.le_iff_toInt_le.mpr h.2) (Int64.not_le.mpr ((lg_cmp_gt v hi).mp c10)))).symm | exact (bI_df (fun h => absurd (Int64.le_iff_toInt_le.mpr h.1) (Int64.not_le.mpr ((lg_cmp_lt v lo).mp c3)))).symm) hSep hS (by first | exact Nat.le_of_ble_eq_true rfl | omega | (dsimp only; omega)) (by first | exact Nat.le_of_ble_eq_true rfl | omega | (dsimp only; omega)) dX4_in_18 hlocks
    · refine lv_iconst (v := (nI 1)) hx hb dX4_in_13 (by decide) ?_
      refine lv_goto (tgt := 18) hx hb dX4_in_14 (by decide) ?_
      rw [hQ]
      exact r_z (r := (nI 1)) (u := ()) hx hb hr (by decide) (by first | exact (bI_dt ⟨Int64.le_iff_toInt_le.mp (Int64.not_lt.mp (fun h => c3 ((lg_cmp_lt v lo).mpr h))), Int64.le_iff_toInt_le.mp (Int64.not_lt.mp (fun h => c10 ((lg_cmp_gt v hi).mpr h)))⟩).symm | exact (bI_df (fun h => absurd (Int64.le_iff_toInt_le.mpr h.2) (Int64.not_le.mpr ((lg_cmp_gt v hi).mp c10)))).symm | exact (bI_df (fun h => absurd (Int64.le_iff_toInt_le.mpr h.1) (Int64.not_le.mpr ((lg_cmp_lt v lo).mp c3)))).symm) hSep hS (by first | exact Nat.le_of_ble_eq_true rfl | omega | (dsimp only; omega)) (by first | exact Nat.le_of_ble_eq_true rfl | omega | (dsimp only; omega)) dX4_in_18 hlocks

set_option maxHeartbeats 600000 in
set_option maxRecDepth 100000 in
theorem m_X4_at (l : Launch) (G : EVT) (sz : Nat) (t : Nat)  : Met l yX4_at (ws_ yX4_at cX4_at 1 (some .int)) ({ frames := 0, cells := 0, slots := 0, locals := 0 } : Room) (SPc G (fun _ => False) sz [.int (nI t)] [] (fun _ => True)) (SQi G (fun _ => False) sz (fun (r : Int32) (u : Unit) => r = (nI (23 + 15 * t))) (fun (u : Unit) => [])) (0) (0) (Fz (fun _ => False) sz) := by
  refine sp_of RX4 (by decide) rfl (Nat.le_of_ble_eq_true rfl) ?_
  intro p e s m args below meth c ls QQ hx hb hr hts hown hlocks hml hnm hsz hSep hΦ hE hS hl hQ
  subst hsz
  have hK := hE.1
  have hl : lv_has ls 1 [(0, .int (nI t))] := hl
  refine lv_bipush (v := (nI 23)) hx hb dX4_at_0 (by decide) ?_
  refine lv_bipush (v := (nI 15)) hx hb dX4_at_2 (by decide) ?_
  refine lv_iload_n hx hb dX4_at_4 rfl (lv_at hl 0 rfl) ?_
  refine n_imul hx hb dX4_at_5 ?_
  refine n_iadd hx hb dX4_at_6 ?_
  rw [hQ]
  exact r_i (r := (nI (23 + (15 * t)))) (u := ()) hx hb hr (rfl) hSep hS (by first | exact Nat.le_of_ble_eq_true rfl | omega | (dsimp only; omega)) (by first | exact Nat.le_of_ble_eq_true rfl | omega | (dsimp only; omega)) dX4_at_7 hlocks

set_option maxHeartbeats 600000 in
set_option maxRecDepth 100000 in
theorem m_X4_isTeller (l : Launch) (G : EVT) (sz : Nat) (x : Int32)  : Met l yX4_isTeller (ws_ yX4_isTeller cX4_isTeller 1 (some .boolean)) ({ frames := 1, cells := 0, slots := 0, locals := 40 } : Room) (SPc G (fun _ => False) sz [.int x] [] (fun _ => True)) (SQi G (fun _ => False) sz (fun (r : Int32) (u : Unit) => r = (bI (inR x.toInt 0 1))) (fun (u : Unit) => [])) (0) (0) (Fz (fun _ => False) sz) := by
  refine sp_of RX4 (by decide) rfl (Nat.le_of_ble_eq_true rfl) ?_
  intro p e s m args below meth c ls QQ hx hb hr hts hown hlocks hml hnm hsz hSep hΦ hE hS hl hQ
  subst hsz
  have hK := hE.1
  have hl : lv_has ls 1 [(0, .int x)] := hl
  refine lv_iload_n hx hb dX4_isTeller_0 rfl (lv_at hl 0 rfl) ?_
  refine lv_i2l hx hb dX4_isTeller_1 rfl ?_
  refine lv_lconst (v := 0) hx hb dX4_isTeller_2 (by decide) ?_
  refine lv_lconst (v := 1) hx hb dX4_isTeller_3 (by decide) ?_
  have hFk_1 : ∀ q, Fz (fun _ => False) s.heap.size q → (Fz (fun _ => False) s.heap.size) q := fun q h => by rcases h with h | h; exact h.elim; exact Fz.new (Nat.le_trans hS.1 h)
  have hPk_1 : Sep G.1 clA (Fz (fun _ => False) s.heap.size) [] s.heap := sp_nil
  have hJk_1 := sp_nilJ (F := (fun _ => False)) hSep (fun _ => id) hFk_1
  refine c_i (va_runS (As := [.long x.toInt64, .long (0 : Int64), .long (1 : Int64)]) (rest := []) ⟨hx, hb, hml, hown, hts⟩ (m_X4_in l G s.heap.size x.toInt64 (0 : Int64) (1 : Int64) ) (va_cwS 3 hts (lw_S q1532 q1533 q44 q1534) rfl rfl rfl (by decide +kernel) ⟨Nat.le_of_ble_eq_true rfl, Nat.le_of_ble_eq_true rfl⟩) (sp_preS hE hS hFk_1 hPk_1 trivial) rfl rfl hl.1 rfl (lv_room (Nat.le_of_ble_eq_true rfl)) dX4_isTeller_4 ⟨by first | exact Nat.le_of_ble_eq_true rfl | omega | (dsimp only; omega), by first | exact Nat.le_of_ble_eq_true rfl | omega | (dsimp only; omega)⟩) hS hFk_1 hJk_1 (fun r_2 u_3 H locs hpk_1 hSep hS hzk_1 => ?_)
  obtain rfl : r_2 = (bI (inR x.toInt64.toInt (0 : Int64).toInt (1 : Int64).toInt)) := hpk_1
  refine W.cs (cells' := 0) (slots' := 0) rfl rfl ?_
  have hSep : Sep G.1 clA (Fz (fun _ => False) s.heap.size) [] H := hSep
  refine n_eq (y := (bI (inR x.toInt 0 1))) (by rw [Int32.toInt_toInt64]; rfl) ?_
  rw [hQ]
  exact r_z (r := (bI (inR x.toInt 0 1))) (u := ()) hx hb hr (bI_nar _) (rfl) hSep hS (by first | exact Nat.le_of_ble_eq_true rfl | omega | (dsimp only; omega)) (by first | exact Nat.le_of_ble_eq_true rfl | omega | (dsimp only; omega)) dX4_isTeller_7 hlocks

set_option maxHeartbeats 600000 in
set_option maxRecDepth 100000 in
theorem m_X4_isWord (l : Launch) (G : EVT) (sz : Nat) (x : Int32)  : Met l yX4_isWord (ws_ yX4_isWord cX4_isWord 1 (some .boolean)) ({ frames := 1, cells := 0, slots := 0, locals := 40 } : Room) (SPc G (fun _ => False) sz [.int x] [] (fun _ => True)) (SQi G (fun _ => False) sz (fun (r : Int32) (u : Unit) => r = (bI (inR x.toInt 0 17))) (fun (u : Unit) => [])) (0) (0) (Fz (fun _ => False) sz) := by
  refine sp_of RX4 (by decide) rfl (Nat.le_of_ble_eq_true rfl) ?_
  intro p e s m args below meth c ls QQ hx hb hr hts hown hlocks hml hnm hsz hSep hΦ hE hS hl hQ
  subst hsz
  have hK := hE.1
  have hl : lv_has ls 1 [(0, .int x)] := hl
  refine lv_iload_n hx hb dX4_isWord_0 rfl (lv_at hl 0 rfl) ?_
  refine lv_i2l hx hb dX4_isWord_1 rfl ?_
  refine lv_lconst (v := 0) hx hb dX4_isWord_2 (by decide) ?_
  refine lv_ldc2 (v := 17) hx hb hown (hts _ q1554) dX4_isWord_3 ?_
  have hFk_1 : ∀ q, Fz (fun _ => False) s.heap.size q → (Fz (fun _ => False) s.heap.size) q := fun q h => by rcases h with h | h; exact h.elim; exact Fz.new (Nat.le_trans hS.1 h)
  have hPk_1 : Sep G.1 clA (Fz (fun _ => False) s.heap.size) [] s.heap := sp_nil
  have hJk_1 := sp_nilJ (F := (fun _ => False)) hSep (fun _ => id) hFk_1
  refine c_i (va_runS (As := [.long x.toInt64, .long (0 : Int64), .long (17 : Int64)]) (rest := []) ⟨hx, hb, hml, hown, hts⟩ (m_X4_in l G s.heap.size x.toInt64 (0 : Int64) (17 : Int64) ) (va_cwS 3 hts (lw_S q1532 q1533 q44 q1534) rfl rfl rfl (by decide +kernel) ⟨Nat.le_of_ble_eq_true rfl, Nat.le_of_ble_eq_true rfl⟩) (sp_preS hE hS hFk_1 hPk_1 trivial) rfl rfl hl.1 rfl (lv_room (Nat.le_of_ble_eq_true rfl)) dX4_isWord_6 ⟨by first | exact Nat.le_of_ble_eq_true rfl | omega | (dsimp only; omega), by first | exact Nat.le_of_ble_eq_true rfl | omega | (dsimp only; omega)⟩) hS hFk_1 hJk_1 (fun r_2 u_3 H locs hpk_1 hSep hS hzk_1 => ?_)
  obtain rfl : r_2 = (bI (inR x.toInt64.toInt (0 : Int64).toInt (17 : Int64).toInt)) := hpk_1
  refine W.cs (cells' := 0) (slots' := 0) rfl rfl ?_
  have hSep : Sep G.1 clA (Fz (fun _ => False) s.heap.size) [] H := hSep
  refine n_eq (y := (bI (inR x.toInt 0 17))) (by rw [Int32.toInt_toInt64]; rfl) ?_
  rw [hQ]
  exact r_z (r := (bI (inR x.toInt 0 17))) (u := ()) hx hb hr (bI_nar _) (rfl) hSep hS (by first | exact Nat.le_of_ble_eq_true rfl | omega | (dsimp only; omega)) (by first | exact Nat.le_of_ble_eq_true rfl | omega | (dsimp only; omega)) dX4_isWord_9 hlocks

set_option maxHeartbeats 600000 in
set_option maxRecDepth 100000 in
theorem m_X4_isOn (l : Launch) (G : EVT) (sz : Nat) (a : Nat) (f : Nat → Int32) (g : GS) (he : Enc f g) : Met l yX4_isOn (ws_ yX4_isOn cX4_isOn 1 (some .boolean)) ({ frames := 0, cells := 0, slots := 0, locals := 0 } : Room) (SPc G (fun _ => False) sz [.ref a] [] (fun H => va_P G.1 clA [(a, .inl (G.2.1 0, 89, .inl f))] H)) (SQi G (fun _ => False) sz (fun (r : Int32) (u : Unit) => r = (bI (gOn g))) (fun (u : Unit) => [])) (0) (0) (Fz (fun _ => False) sz) := by
  refine sp_of RX4 (by decide) rfl (Nat.le_of_ble_eq_true rfl) ?_
  intro p e s m args below meth c ls QQ hx hb hr hts hown hlocks hml hnm hsz hSep hΦ hE hS hl hQ
  subst hsz
  have hK := hE.1
  have hl : lv_has ls 1 [(0, .ref a)] := hl
  refine lv_aload_n hx hb dX4_isOn_0 rfl (lv_at hl 0 rfl) ?_
  refine lv_iconst (v := (nI 0)) hx hb dX4_isOn_1 (by decide) ?_
  refine n_iald (i := 0) hx hb hK ((ro0 hΦ hS).sub [0] rfl) 0 rfl (by omega) (by omega) dX4_isOn_2 ?_
  refine n_eq (y := (g.1 0)) (he.num (by decide)) ?_
  refine lv_iconst (v := (nI 1)) hx hb dX4_isOn_3 (by decide) ?_
  refine lv_icmp_ne (tgt := 17) hx hb dX4_isOn_4 (by decide) (fun c4 => ?_) (fun c4 => ?_)
  · refine lv_iconst (v := (nI 0)) hx hb dX4_isOn_17 (by decide) ?_
    rw [hQ]
    exact r_z (r := (nI 0)) (u := ()) hx hb hr (by decide) (by first | exact (bI_dt ⟨c4, c10⟩).symm | exact (bI_df (fun h => c4 h.1)).symm | exact (bI_df (fun h => c10 h.2)).symm) hSep hS (by first | exact Nat.le_of_ble_eq_true rfl | omega | (dsimp only; omega)) (by first | exact Nat.le_of_ble_eq_true rfl | omega | (dsimp only; omega)) dX4_isOn_18 hlocks
  · refine lv_aload_n hx hb dX4_isOn_7 rfl (lv_at hl 0 rfl) ?_
    refine lv_iconst (v := (nI 5)) hx hb dX4_isOn_8 (by decide) ?_
    refine n_iald (i := 5) hx hb hK ((ro0 hΦ hS).sub [0] rfl) 0 rfl (by omega) (by omega) dX4_isOn_9 ?_
    refine n_eq (y := (g.1 5)) (he.num (by decide)) ?_
    refine lv_if_ne (tgt := 17) hx hb dX4_isOn_10 (by decide) (fun c10 => ?_) (fun c10 => ?_)
    · refine lv_iconst (v := (nI 0)) hx hb dX4_isOn_17 (by decide) ?_
      rw [hQ]
      exact r_z (r := (nI 0)) (u := ()) hx hb hr (by decide) (by first | exact (bI_dt ⟨c4, c10⟩).symm | exact (bI_df (fun h => c4 h.1)).symm | exact (bI_df (fun h => c10 h.2)).symm) hSep hS (by first | exact Nat.le_of_ble_eq_true rfl | omega | (dsimp only; omega)) (by first | exact Nat.le_of_ble_eq_true rfl | omega | (dsimp only; omega)) dX4_isOn_18 hlocks
    · refine lv_iconst (v := (nI 1)) hx hb dX4_isOn_13 (by decide) ?_
      refine lv_goto (tgt := 18) hx hb dX4_isOn_14 (by decide) ?_
      rw [hQ]
      exact r_z (r := (nI 1)) (u := ()) hx hb hr (by decide) (by first | exact (bI_dt ⟨c4, c10⟩).symm | exact (bI_df (fun h => c4 h.1)).symm | exact (bI_df (fun h => c10 h.2)).symm) hSep hS (by first | exact Nat.le_of_ble_eq_true rfl | omega | (dsimp only; omega)) (by first | exact Nat.le_of_ble_eq_true rfl | omega | (dsimp only; omega)) dX4_isOn_18 hlocks

set_option maxHeartbeats 600000 in
set_option maxRecDepth 100000 in
theorem m_X4_isForbidden (l : Launch) (G : EVT) (sz : Nat) (a : Nat) (f : Nat → Int32) (g : GS) (t : Nat) (w : Nat) (he : Enc f g) (ho : gOk g) (ht : t < 2) (hw : w < 2147483648) : Met l yX4_isForbidden (ws_ yX4_isForbidden cX4_isForbidden 4 (some .boolean)) ({ frames := 1, cells := 0, slots := 0, locals := 40 } : Room) (SPc G (fun _ => False) sz [.ref a, .int (nI t), .int (nI w)] [] (fun H => va_P G.1 clA [(a, .inl (G.2.1 0, 89, .inl f))] H)) (SQi G (fun _ => False) sz (fun (r : Int32) (u : Unit) => r = (bI (decide (w ∈ gB g t)))) (fun (u : Unit) => [])) (0) (0) (Fz (fun _ => False) sz) := by
  refine sp_of RX4 (by decide) rfl (Nat.le_of_ble_eq_true rfl) ?_
  intro p e s m args below meth c ls QQ hx hb hr hts hown hlocks hml hnm hsz hSep hΦ hE hS hl hQ
  subst hsz
  have hK := hE.1
  have hl : lv_has ls 4 [(0, .ref a), (1, .int (nI t)), (2, .int (nI w))] := hl
  have hlen : (gB g t).length ≤ 5 := (gB_ok ho ht).1
  refine lv_iconst (v := (nI 0)) hx hb dX4_isForbidden_0 (by decide) ?_
  refine lv_istore_n (lv' := [(3, .int (nI 0)), (0, .ref a), (1, .int (nI t)), (2, .int (nI w))]) hx hb dX4_isForbidden_1 rfl hl (by decide) rfl (fun ls hl => ?_)
  have L2 : ∀ (fu : Nat) (k : Nat) , (gB g t).length - k < fu → (k ≤ (gB g t).length) → (∀ j, j < k → (gB g t).getD j 0 ≠ w) → ∀ (H : Heap) (locs : List Loc) (ls : Array Slot), Sep G.1 clA (Fz (fun _ => False) s.heap.size) [] H → va_S (Fz (fun _ => False) s.heap.size) s.heap H locs → lv_has ls 4 [(3, .int (nI k)), (0, .ref a), (1, .int (nI t)), (2, .int (nI w))] → W p l e ({ frames := 1, cells := 0, slots := 0, locals := 40 } : Room) s m args below meth c H locs (0) (0) QQ (F0 m 2 ls []) := by
    intro fu
    induction fu with
    | zero => intro k hm; exact absurd hm (Nat.not_lt_zero _)
    | succ fu ih2 =>
      intro k hm2 hp2_0 hp2_1 H locs ls hSep hS hl
      refine lv_iload_n hx hb dX4_isForbidden_2 rfl (lv_at hl 0 rfl) ?_
      refine lv_aload_n hx hb dX4_isForbidden_3 rfl (lv_at hl 1 rfl) ?_
      refine lv_iload_n hx hb dX4_isForbidden_4 rfl (lv_at hl 2 rfl) ?_
      have hFk_1 : ∀ q, Fz (fun _ => False) H.size q → (Fz (fun _ => False) s.heap.size) q := fun q h => by rcases h with h | h; exact h.elim; exact Fz.new (Nat.le_trans hS.1 h)
      have hPk_1 : Sep G.1 clA (Fz (fun _ => False) H.size) [] H := sp_nil
      have hJk_1 := sp_nilJ (F := (fun _ => False)) hSep (fun _ => id) hFk_1
      refine c_i (va_runS (As := [.int (nI t)]) (rest := [.ref a, .int (nI k)]) ⟨hx, hb, hml, hown, hts⟩ (m_X4_at l G H.size t ) (va_cwS 1 hts (lw_S q1584 q1585 q44 q1586) rfl rfl rfl (by decide +kernel) ⟨Nat.le_of_ble_eq_true rfl, Nat.le_of_ble_eq_true rfl⟩) (sp_preS hE hS hFk_1 hPk_1 trivial) rfl rfl hl.1 rfl (lv_room (Nat.le_of_ble_eq_true rfl)) dX4_isForbidden_5 ⟨by first | exact Nat.le_of_ble_eq_true rfl | omega | (dsimp only; omega), by first | exact Nat.le_of_ble_eq_true rfl | omega | (dsimp only; omega)⟩) hS hFk_1 hJk_1 (fun r_2 u_3 H locs hpk_1 hSep hS hzk_1 => ?_)
      obtain rfl : r_2 = (nI (23 + 15 * t)) := hpk_1
      refine W.cs (cells' := 0) (slots' := 0) rfl rfl ?_
      have hSep : Sep G.1 clA (Fz (fun _ => False) s.heap.size) [] H := hSep
      refine lv_iconst (v := (nI 2)) hx hb dX4_isForbidden_8 (by decide) ?_
      refine n_iadd hx hb dX4_isForbidden_9 ?_
      refine n_iald (i := (23 + 15 * t) + 2) hx hb hK ((ro0 hΦ hS).sub [0] rfl) 0 rfl (by omega) (by omega) dX4_isForbidden_10 ?_
      refine n_eq (y := (nI ((gB g t).length))) (he.bn ht (by omega)) ?_
      refine n_icmp_ge (tgt := 36) hx hb (by omega) (by omega) dX4_isForbidden_11 (by decide) (fun c11 => ?_) (fun c11 => ?_)
      · refine lv_iconst (v := (nI 0)) hx hb dX4_isForbidden_36 (by decide) ?_
        rw [hQ]
        exact r_z (r := (nI 0)) (u := ()) hx hb hr (by decide) ((bI_df (fun h => by obtain ⟨k9, h1, h2⟩ := mem_getD h; exact hp2_1 k9 (by omega) h2)).symm) hSep hS (by first | exact Nat.le_of_ble_eq_true rfl | omega | (dsimp only; omega)) (by first | exact Nat.le_of_ble_eq_true rfl | omega | (dsimp only; omega)) dX4_isForbidden_37 hlocks
      · refine lv_aload_n hx hb dX4_isForbidden_14 rfl (lv_at hl 1 rfl) ?_
        refine lv_iload_n hx hb dX4_isForbidden_15 rfl (lv_at hl 2 rfl) ?_
        have hFk_4 : ∀ q, Fz (fun _ => False) H.size q → (Fz (fun _ => False) s.heap.size) q := fun q h => by rcases h with h | h; exact h.elim; exact Fz.new (Nat.le_trans hS.1 h)
        have hPk_4 : Sep G.1 clA (Fz (fun _ => False) H.size) [] H := sp_nil
        have hJk_4 := sp_nilJ (F := (fun _ => False)) hSep (fun _ => id) hFk_4
        refine c_i (va_runS (As := [.int (nI t)]) (rest := [.ref a]) ⟨hx, hb, hml, hown, hts⟩ (m_X4_at l G H.size t ) (va_cwS 1 hts (lw_S q1584 q1585 q44 q1586) rfl rfl rfl (by decide +kernel) ⟨Nat.le_of_ble_eq_true rfl, Nat.le_of_ble_eq_true rfl⟩) (sp_preS hE hS hFk_4 hPk_4 trivial) rfl rfl hl.1 rfl (lv_room (Nat.le_of_ble_eq_true rfl)) dX4_isForbidden_16 ⟨by first | exact Nat.le_of_ble_eq_true rfl | omega | (dsimp only; omega), by first | exact Nat.le_of_ble_eq_true rfl | omega | (dsimp only; omega)⟩) hS hFk_4 hJk_4 (fun r_5 u_6 H locs hpk_4 hSep hS hzk_4 => ?_)
        obtain rfl : r_5 = (nI (23 + 15 * t)) := hpk_4
        refine W.cs (cells' := 0) (slots' := 0) rfl rfl ?_
        have hSep : Sep G.1 clA (Fz (fun _ => False) s.heap.size) [] H := hSep
        refine lv_iconst (v := (nI 3)) hx hb dX4_isForbidden_19 (by decide) ?_
        refine n_iadd hx hb dX4_isForbidden_20 ?_
        refine lv_iload_n hx hb dX4_isForbidden_21 rfl (lv_at hl 0 rfl) ?_
        refine n_iadd hx hb dX4_isForbidden_22 ?_
        refine n_iald (i := ((23 + 15 * t) + 3) + k) hx hb hK ((ro0 hΦ hS).sub [0] rfl) 0 rfl (by omega) (by omega) dX4_isForbidden_23 ?_
        refine n_eq (y := (nI ((gB g t).getD k 0))) (he.b ht (by omega) (by omega)) ?_
        refine lv_iload_n hx hb dX4_isForbidden_24 rfl (lv_at hl 3 rfl) ?_
        refine n_icmp_ne (tgt := 30) hx hb (by first | exact Nat.lt_trans (getD_lt (gB_ok ho ht).2 (by omega)) (by decide) | omega) (by first | exact Nat.lt_trans (getD_lt (gB_ok ho ht).2 (by omega)) (by decide) | omega) dX4_isForbidden_25 (by decide) (fun c25 => ?_) (fun c25 => ?_)
        · refine lv_iinc (v := (nI (k + 1))) (lv' := [(3, .int (nI (k + 1))), (0, .ref a), (1, .int (nI t)), (2, .int (nI w))]) hx hb dX4_isForbidden_30 hl (k := 0) rfl (nI_inc k 1) (by decide) rfl (fun ls hl => ?_)
          refine lv_goto (tgt := 2) hx hb dX4_isForbidden_33 (by decide) ?_
          exact ih2 (k + 1) (by omega) (by omega) (fun j h => by rcases Nat.lt_succ_iff_lt_or_eq.mp h with z | z; exact hp2_1 j z; rw [z]; exact c25) _ _ _ hSep hS (lv_sub hl [0, 1, 2, 3] rfl)
        · refine lv_iconst (v := (nI 1)) hx hb dX4_isForbidden_28 (by decide) ?_
          rw [hQ]
          exact r_z (r := (nI 1)) (u := ()) hx hb hr (by decide) ((bI_dt (by rw [← c25]; exact getD_mem (by omega))).symm) hSep hS (by first | exact Nat.le_of_ble_eq_true rfl | omega | (dsimp only; omega)) (by first | exact Nat.le_of_ble_eq_true rfl | omega | (dsimp only; omega)) dX4_isForbidden_29 hlocks
  exact L2 ((gB g t).length - 0 + 1) 0 (Nat.lt_succ_self _) (Nat.zero_le _) (fun j h => absurd h (Nat.not_lt_zero _)) _ _ _ hSep hS (lv_sub hl [0, 1, 2, 3] rfl)

set_option maxHeartbeats 600000 in
set_option maxRecDepth 100000 in
theorem m_X4_wasTold (l : Launch) (G : EVT) (sz : Nat) (a : Nat) (f : Nat → Int32) (g : GS) (t : Nat) (w : Nat) (he : Enc f g) (ho : gOk g) (ht : t < 2) (hw : w < 2147483648) : Met l yX4_wasTold (ws_ yX4_wasTold cX4_wasTold 4 (some .boolean)) ({ frames := 1, cells := 0, slots := 0, locals := 40 } : Room) (SPc G (fun _ => False) sz [.ref a, .int (nI t), .int (nI w)] [] (fun H => va_P G.1 clA [(a, .inl (G.2.1 0, 89, .inl f))] H)) (SQi G (fun _ => False) sz (fun (r : Int32) (u : Unit) => r = (bI (decide (w ∈ gL g t)))) (fun (u : Unit) => [])) (0) (0) (Fz (fun _ => False) sz) := by
  refine sp_of RX4 (by decide) rfl (Nat.le_of_ble_eq_true rfl) ?_
  intro p e s m args below meth c ls QQ hx hb hr hts hown hlocks hml hnm hsz hSep hΦ hE hS hl hQ
  subst hsz
  have hK := hE.1
  have hl : lv_has ls 4 [(0, .ref a), (1, .int (nI t)), (2, .int (nI w))] := hl
  have hlen : (gL g t).length ≤ 5 := (gL_ok ho ht).1
  refine lv_iconst (v := (nI 0)) hx hb dX4_wasTold_0 (by decide) ?_
  refine lv_istore_n (lv' := [(3, .int (nI 0)), (0, .ref a), (1, .int (nI t)), (2, .int (nI w))]) hx hb dX4_wasTold_1 rfl hl (by decide) rfl (fun ls hl => ?_)
  have L2 : ∀ (fu : Nat) (k : Nat) , (gL g t).length - k < fu → (k ≤ (gL g t).length) → (∀ j, j < k → (gL g t).getD j 0 ≠ w) → ∀ (H : Heap) (locs : List Loc) (ls : Array Slot), Sep G.1 clA (Fz (fun _ => False) s.heap.size) [] H → va_S (Fz (fun _ => False) s.heap.size) s.heap H locs → lv_has ls 4 [(3, .int (nI k)), (0, .ref a), (1, .int (nI t)), (2, .int (nI w))] → W p l e ({ frames := 1, cells := 0, slots := 0, locals := 40 } : Room) s m args below meth c H locs (0) (0) QQ (F0 m 2 ls []) := by
    intro fu
    induction fu with
    | zero => intro k hm; exact absurd hm (Nat.not_lt_zero _)
    | succ fu ih2 =>
      intro k hm2 hp2_0 hp2_1 H locs ls hSep hS hl
      refine lv_iload_n hx hb dX4_wasTold_2 rfl (lv_at hl 0 rfl) ?_
      refine lv_aload_n hx hb dX4_wasTold_3 rfl (lv_at hl 1 rfl) ?_
      refine lv_iload_n hx hb dX4_wasTold_4 rfl (lv_at hl 2 rfl) ?_
      have hFk_1 : ∀ q, Fz (fun _ => False) H.size q → (Fz (fun _ => False) s.heap.size) q := fun q h => by rcases h with h | h; exact h.elim; exact Fz.new (Nat.le_trans hS.1 h)
      have hPk_1 : Sep G.1 clA (Fz (fun _ => False) H.size) [] H := sp_nil
      have hJk_1 := sp_nilJ (F := (fun _ => False)) hSep (fun _ => id) hFk_1
      refine c_i (va_runS (As := [.int (nI t)]) (rest := [.ref a, .int (nI k)]) ⟨hx, hb, hml, hown, hts⟩ (m_X4_at l G H.size t ) (va_cwS 1 hts (lw_S q1584 q1585 q44 q1586) rfl rfl rfl (by decide +kernel) ⟨Nat.le_of_ble_eq_true rfl, Nat.le_of_ble_eq_true rfl⟩) (sp_preS hE hS hFk_1 hPk_1 trivial) rfl rfl hl.1 rfl (lv_room (Nat.le_of_ble_eq_true rfl)) dX4_wasTold_5 ⟨by first | exact Nat.le_of_ble_eq_true rfl | omega | (dsimp only; omega), by first | exact Nat.le_of_ble_eq_true rfl | omega | (dsimp only; omega)⟩) hS hFk_1 hJk_1 (fun r_2 u_3 H locs hpk_1 hSep hS hzk_1 => ?_)
      obtain rfl : r_2 = (nI (23 + 15 * t)) := hpk_1
      refine W.cs (cells' := 0) (slots' := 0) rfl rfl ?_
      have hSep : Sep G.1 clA (Fz (fun _ => False) s.heap.size) [] H := hSep
      refine lv_bipush (v := (nI 9)) hx hb dX4_wasTold_8 (by decide) ?_
      refine n_iadd hx hb dX4_wasTold_10 ?_
      refine n_iald (i := (23 + 15 * t) + 9) hx hb hK ((ro0 hΦ hS).sub [0] rfl) 0 rfl (by omega) (by omega) dX4_wasTold_11 ?_
      refine n_eq (y := (nI ((gL g t).length))) (he.ln ht (by omega)) ?_
      refine n_icmp_ge (tgt := 38) hx hb (by omega) (by omega) dX4_wasTold_12 (by decide) (fun c12 => ?_) (fun c12 => ?_)
      · refine lv_iconst (v := (nI 0)) hx hb dX4_wasTold_38 (by decide) ?_
        rw [hQ]
        exact r_z (r := (nI 0)) (u := ()) hx hb hr (by decide) ((bI_df (fun h => by obtain ⟨k9, h1, h2⟩ := mem_getD h; exact hp2_1 k9 (by omega) h2)).symm) hSep hS (by first | exact Nat.le_of_ble_eq_true rfl | omega | (dsimp only; omega)) (by first | exact Nat.le_of_ble_eq_true rfl | omega | (dsimp only; omega)) dX4_wasTold_39 hlocks
      · refine lv_aload_n hx hb dX4_wasTold_15 rfl (lv_at hl 1 rfl) ?_
        refine lv_iload_n hx hb dX4_wasTold_16 rfl (lv_at hl 2 rfl) ?_
        have hFk_4 : ∀ q, Fz (fun _ => False) H.size q → (Fz (fun _ => False) s.heap.size) q := fun q h => by rcases h with h | h; exact h.elim; exact Fz.new (Nat.le_trans hS.1 h)
        have hPk_4 : Sep G.1 clA (Fz (fun _ => False) H.size) [] H := sp_nil
        have hJk_4 := sp_nilJ (F := (fun _ => False)) hSep (fun _ => id) hFk_4
        refine c_i (va_runS (As := [.int (nI t)]) (rest := [.ref a]) ⟨hx, hb, hml, hown, hts⟩ (m_X4_at l G H.size t ) (va_cwS 1 hts (lw_S q1584 q1585 q44 q1586) rfl rfl rfl (by decide +kernel) ⟨Nat.le_of_ble_eq_true rfl, Nat.le_of_ble_eq_true rfl⟩) (sp_preS hE hS hFk_4 hPk_4 trivial) rfl rfl hl.1 rfl (lv_room (Nat.le_of_ble_eq_true rfl)) dX4_wasTold_17 ⟨by first | exact Nat.le_of_ble_eq_true rfl | omega | (dsimp only; omega), by first | exact Nat.le_of_ble_eq_true rfl | omega | (dsimp only; omega)⟩) hS hFk_4 hJk_4 (fun r_5 u_6 H locs hpk_4 hSep hS hzk_4 => ?_)
        obtain rfl : r_5 = (nI (23 + 15 * t)) := hpk_4
        refine W.cs (cells' := 0) (slots' := 0) rfl rfl ?_
        have hSep : Sep G.1 clA (Fz (fun _ => False) s.heap.size) [] H := hSep
        refine lv_bipush (v := (nI 10)) hx hb dX4_wasTold_20 (by decide) ?_
        refine n_iadd hx hb dX4_wasTold_22 ?_
        refine lv_iload_n hx hb dX4_wasTold_23 rfl (lv_at hl 0 rfl) ?_
        refine n_iadd hx hb dX4_wasTold_24 ?_
        refine n_iald (i := ((23 + 15 * t) + 10) + k) hx hb hK ((ro0 hΦ hS).sub [0] rfl) 0 rfl (by omega) (by omega) dX4_wasTold_25 ?_
        refine n_eq (y := (nI ((gL g t).getD k 0))) (he.l ht (by omega) (by omega)) ?_
        refine lv_iload_n hx hb dX4_wasTold_26 rfl (lv_at hl 3 rfl) ?_
        refine n_icmp_ne (tgt := 32) hx hb (by first | exact Nat.lt_trans (getD_lt (gL_ok ho ht).2 (by omega)) (by decide) | omega) (by first | exact Nat.lt_trans (getD_lt (gL_ok ho ht).2 (by omega)) (by decide) | omega) dX4_wasTold_27 (by decide) (fun c27 => ?_) (fun c27 => ?_)
        · refine lv_iinc (v := (nI (k + 1))) (lv' := [(3, .int (nI (k + 1))), (0, .ref a), (1, .int (nI t)), (2, .int (nI w))]) hx hb dX4_wasTold_32 hl (k := 0) rfl (nI_inc k 1) (by decide) rfl (fun ls hl => ?_)
          refine lv_goto (tgt := 2) hx hb dX4_wasTold_35 (by decide) ?_
          exact ih2 (k + 1) (by omega) (by omega) (fun j h => by rcases Nat.lt_succ_iff_lt_or_eq.mp h with z | z; exact hp2_1 j z; rw [z]; exact c27) _ _ _ hSep hS (lv_sub hl [0, 1, 2, 3] rfl)
        · refine lv_iconst (v := (nI 1)) hx hb dX4_wasTold_30 (by decide) ?_
          rw [hQ]
          exact r_z (r := (nI 1)) (u := ()) hx hb hr (by decide) ((bI_dt (by rw [← c27]; exact getD_mem (by omega))).symm) hSep hS (by first | exact Nat.le_of_ble_eq_true rfl | omega | (dsimp only; omega)) (by first | exact Nat.le_of_ble_eq_true rfl | omega | (dsimp only; omega)) dX4_wasTold_31 hlocks
  exact L2 ((gL g t).length - 0 + 1) 0 (Nat.lt_succ_self _) (Nat.zero_le _) (fun j h => absurd h (Nat.not_lt_zero _)) _ _ _ hSep hS (lv_sub hl [0, 1, 2, 3] rfl)

set_option maxHeartbeats 600000 in
set_option maxRecDepth 100000 in
theorem m_X4_logged (l : Launch) (G : EVT) (sz : Nat) (a : Nat) (f : Nat → Int32) (g : GS) (k : Nat) (i : Nat) (he : Enc f g) (ho : gOk g) (hk : k < 2147483648) (hi : i < 2147483648) : Met l yX4_logged (ws_ yX4_logged cX4_logged 3 (some .int)) ({ frames := 0, cells := 0, slots := 0, locals := 0 } : Room) (SPc G (fun _ => False) sz [.ref a, .int (nI k), .int (nI i)] [] (fun H => va_P G.1 clA [(a, .inl (G.2.1 0, 89, .inl f))] H)) (SQi G (fun _ => False) sz (fun (r : Int32) (u : Unit) => r = (lgV g k i)) (fun (u : Unit) => [])) (0) (0) (Fz (fun _ => False) sz) := by
  refine sp_of RX4 (by decide) rfl (Nat.le_of_ble_eq_true rfl) ?_
  intro p e s m args below meth c ls QQ hx hb hr hts hown hlocks hml hnm hsz hSep hΦ hE hS hl hQ
  subst hsz
  have hK := hE.1
  have hl : lv_has ls 3 [(0, .ref a), (1, .int (nI k)), (2, .int (nI i))] := hl
  have hlen : (gLog g k).length ≤ 5 := (gLog_ok ho k).1
  refine lv_iload_n hx hb dX4_logged_0 rfl (lv_at hl 1 rfl) ?_
  refine lv_bipush (v := (nI 6)) hx hb dX4_logged_1 (by decide) ?_
  refine n_icmp_ge (tgt := 35) hx hb (by omega) (by omega) dX4_logged_3 (by decide) (fun c3 => ?_) (fun c3 => ?_)
  · refine lv_iconst (v := (-1)) hx hb dX4_logged_35 (by decide) ?_
    rw [hQ]
    exact r_i (r := (-1)) (u := ()) hx hb hr (by first | exact (show (-1 : Int32) = lgV g k i by unfold lgV; rw [gLog_out ho (by omega)]; rfl) | exact (show (-1 : Int32) = lgV g k i by unfold lgV; rw [if_neg (by omega)]) | exact (show nI ((gLog g k).getD i 0) = lgV g k i by unfold lgV; rw [if_pos (by omega)])) hSep hS (by first | exact Nat.le_of_ble_eq_true rfl | omega | (dsimp only; omega)) (by first | exact Nat.le_of_ble_eq_true rfl | omega | (dsimp only; omega)) dX4_logged_36 hlocks
  · refine lv_iload_n hx hb dX4_logged_6 rfl (lv_at hl 2 rfl) ?_
    refine lv_aload_n hx hb dX4_logged_7 rfl (lv_at hl 0 rfl) ?_
    refine lv_bipush (v := (nI 53)) hx hb dX4_logged_8 (by decide) ?_
    refine lv_bipush (v := (nI 6)) hx hb dX4_logged_10 (by decide) ?_
    refine lv_iload_n hx hb dX4_logged_12 rfl (lv_at hl 1 rfl) ?_
    refine n_imul hx hb dX4_logged_13 ?_
    refine n_iadd hx hb dX4_logged_14 ?_
    refine n_iald (i := 53 + (6 * k)) hx hb hK ((ro0 hΦ hS).sub [0] rfl) 0 rfl (by omega) (by omega) dX4_logged_15 ?_
    refine n_eq (y := (nI ((gLog g k).length))) (he.gn (by omega) (by omega)) ?_
    refine n_icmp_ge (tgt := 35) hx hb (by omega) (by omega) dX4_logged_16 (by decide) (fun c16 => ?_) (fun c16 => ?_)
    · refine lv_iconst (v := (-1)) hx hb dX4_logged_35 (by decide) ?_
      rw [hQ]
      exact r_i (r := (-1)) (u := ()) hx hb hr (by first | exact (show (-1 : Int32) = lgV g k i by unfold lgV; rw [gLog_out ho (by omega)]; rfl) | exact (show (-1 : Int32) = lgV g k i by unfold lgV; rw [if_neg (by omega)]) | exact (show nI ((gLog g k).getD i 0) = lgV g k i by unfold lgV; rw [if_pos (by omega)])) hSep hS (by first | exact Nat.le_of_ble_eq_true rfl | omega | (dsimp only; omega)) (by first | exact Nat.le_of_ble_eq_true rfl | omega | (dsimp only; omega)) dX4_logged_36 hlocks
    · refine lv_aload_n hx hb dX4_logged_19 rfl (lv_at hl 0 rfl) ?_
      refine lv_bipush (v := (nI 53)) hx hb dX4_logged_20 (by decide) ?_
      refine lv_bipush (v := (nI 6)) hx hb dX4_logged_22 (by decide) ?_
      refine lv_iload_n hx hb dX4_logged_24 rfl (lv_at hl 1 rfl) ?_
      refine n_imul hx hb dX4_logged_25 ?_
      refine n_iadd hx hb dX4_logged_26 ?_
      refine lv_iconst (v := (nI 1)) hx hb dX4_logged_27 (by decide) ?_
      refine n_iadd hx hb dX4_logged_28 ?_
      refine lv_iload_n hx hb dX4_logged_29 rfl (lv_at hl 2 rfl) ?_
      refine n_iadd hx hb dX4_logged_30 ?_
      refine n_iald (i := ((53 + (6 * k)) + 1) + i) hx hb hK ((ro0 hΦ hS).sub [0] rfl) 0 rfl (by omega) (by omega) dX4_logged_31 ?_
      refine n_eq (y := (nI ((gLog g k).getD i 0))) (he.g (by omega) (by omega) (by omega)) ?_
      refine lv_goto (tgt := 36) hx hb dX4_logged_32 (by decide) ?_
      rw [hQ]
      exact r_i (r := (nI ((gLog g k).getD i 0))) (u := ()) hx hb hr (by first | exact (show (-1 : Int32) = lgV g k i by unfold lgV; rw [gLog_out ho (by omega)]; rfl) | exact (show (-1 : Int32) = lgV g k i by unfold lgV; rw [if_neg (by omega)]) | exact (show nI ((gLog g k).getD i 0) = lgV g k i by unfold lgV; rw [if_pos (by omega)])) hSep hS (by first | exact Nat.le_of_ble_eq_true rfl | omega | (dsimp only; omega)) (by first | exact Nat.le_of_ble_eq_true rfl | omega | (dsimp only; omega)) dX4_logged_36 hlocks

set_option maxHeartbeats 600000 in
set_option maxRecDepth 100000 in
theorem m_X4_isThere (l : Launch) (G : EVT) (sz : Nat) (a : Nat) (f : Nat → Int32) (g : GS) (k : Nat) (he : Enc f g) (hk : k < 3) : Met l yX4_isThere (ws_ yX4_isThere cX4_isThere 2 (some .boolean)) ({ frames := 0, cells := 0, slots := 0, locals := 0 } : Room) (SPc G (fun _ => False) sz [.ref a, .int (nI k)] [] (fun H => va_P G.1 clA [(a, .inl (G.2.1 0, 89, .inl f))] H)) (SQi G (fun _ => False) sz (fun (r : Int32) (u : Unit) => r = (bI (gThere g k))) (fun (u : Unit) => [])) (0) (0) (Fz (fun _ => False) sz) := by
  refine sp_of RX4 (by decide) rfl (Nat.le_of_ble_eq_true rfl) ?_
  intro p e s m args below meth c ls QQ hx hb hr hts hown hlocks hml hnm hsz hSep hΦ hE hS hl hQ
  subst hsz
  have hK := hE.1
  have hl : lv_has ls 2 [(0, .ref a), (1, .int (nI k))] := hl
  refine lv_aload_n hx hb dX4_isThere_0 rfl (lv_at hl 0 rfl) ?_
  refine lv_bipush (v := (nI 17)) hx hb dX4_isThere_1 (by decide) ?_
  refine lv_iload_n hx hb dX4_isThere_3 rfl (lv_at hl 1 rfl) ?_
  refine n_iadd hx hb dX4_isThere_4 ?_
  refine n_iald (i := 17 + k) hx hb hK ((ro0 hΦ hS).sub [0] rfl) 0 rfl (by omega) (by omega) dX4_isThere_5 ?_
  refine n_eq (y := (g.1 (17 + k))) (he.num (by omega)) ?_
  refine lv_iconst (v := (nI 1)) hx hb dX4_isThere_6 (by decide) ?_
  refine lv_icmp_ne (tgt := 14) hx hb dX4_isThere_7 (by decide) (fun c7 => ?_) (fun c7 => ?_)
  · refine lv_iconst (v := (nI 0)) hx hb dX4_isThere_14 (by decide) ?_
    rw [hQ]
    exact r_z (r := (nI 0)) (u := ()) hx hb hr (by decide) (by first | exact (bI_dt (c7)).symm | exact (bI_df c7).symm) hSep hS (by first | exact Nat.le_of_ble_eq_true rfl | omega | (dsimp only; omega)) (by first | exact Nat.le_of_ble_eq_true rfl | omega | (dsimp only; omega)) dX4_isThere_15 hlocks
  · refine lv_iconst (v := (nI 1)) hx hb dX4_isThere_10 (by decide) ?_
    refine lv_goto (tgt := 15) hx hb dX4_isThere_11 (by decide) ?_
    rw [hQ]
    exact r_z (r := (nI 1)) (u := ()) hx hb hr (by decide) (by first | exact (bI_dt (c7)).symm | exact (bI_df c7).symm) hSep hS (by first | exact Nat.le_of_ble_eq_true rfl | omega | (dsimp only; omega)) (by first | exact Nat.le_of_ble_eq_true rfl | omega | (dsimp only; omega)) dX4_isThere_15 hlocks

set_option maxHeartbeats 600000 in
set_option maxRecDepth 100000 in
theorem m_X4_likes (l : Launch) (G : EVT) (sz : Nat) (a : Nat) (f : Nat → Int32) (g : GS) (k : Nat) (w : Nat) (he : Enc f g) (hk : k < 3) (hw : w < 32) : Met l yX4_likes (ws_ yX4_likes cX4_likes 3 (some .boolean)) ({ frames := 0, cells := 0, slots := 0, locals := 0 } : Room) (SPc G (fun _ => False) sz [.ref a, .int (nI k), .int (nI w)] [] (fun H => va_P G.1 clA [(a, .inl (G.2.1 0, 89, .inl f))] H)) (SQi G (fun _ => False) sz (fun (r : Int32) (u : Unit) => r = (bI (bitI (g.1 (11 + k)) w))) (fun (u : Unit) => [])) (0) (0) (Fz (fun _ => False) sz) := by
  refine sp_of RX4 (by decide) rfl (Nat.le_of_ble_eq_true rfl) ?_
  intro p e s m args below meth c ls QQ hx hb hr hts hown hlocks hml hnm hsz hSep hΦ hE hS hl hQ
  subst hsz
  have hK := hE.1
  have hl : lv_has ls 3 [(0, .ref a), (1, .int (nI k)), (2, .int (nI w))] := hl
  refine lv_aload_n hx hb dX4_likes_0 rfl (lv_at hl 0 rfl) ?_
  refine lv_bipush (v := (nI 11)) hx hb dX4_likes_1 (by decide) ?_
  refine lv_iload_n hx hb dX4_likes_3 rfl (lv_at hl 1 rfl) ?_
  refine n_iadd hx hb dX4_likes_4 ?_
  refine n_iald (i := 11 + k) hx hb hK ((ro0 hΦ hS).sub [0] rfl) 0 rfl (by omega) (by omega) dX4_likes_5 ?_
  refine n_eq (y := (g.1 (11 + k))) (he.num (by omega)) ?_
  refine lv_iload_n hx hb dX4_likes_6 rfl (lv_at hl 2 rfl) ?_
  refine lv_ishr hx hb dX4_likes_7 ?_
  refine lv_iconst (v := (nI 1)) hx hb dX4_likes_8 (by decide) ?_
  refine lv_iand hx hb dX4_likes_9 ?_
  refine n_eq (y := (bI (bitI (g.1 (11 + k)) w))) (bit_shr _ hw) ?_
  refine lv_iconst (v := (nI 1)) hx hb dX4_likes_10 (by decide) ?_
  refine lv_icmp_ne (tgt := 18) hx hb dX4_likes_11 (by decide) (fun c11 => ?_) (fun c11 => ?_)
  · refine lv_iconst (v := (nI 0)) hx hb dX4_likes_18 (by decide) ?_
    rw [hQ]
    exact r_z (r := (nI 0)) (u := ()) hx hb hr (by decide) (by first | exact c11.symm | (cases hb9 : bitI (g.1 (11 + k)) w; rfl; rw [hb9] at c11; exact absurd rfl c11)) hSep hS (by first | exact Nat.le_of_ble_eq_true rfl | omega | (dsimp only; omega)) (by first | exact Nat.le_of_ble_eq_true rfl | omega | (dsimp only; omega)) dX4_likes_19 hlocks
  · refine lv_iconst (v := (nI 1)) hx hb dX4_likes_14 (by decide) ?_
    refine lv_goto (tgt := 19) hx hb dX4_likes_15 (by decide) ?_
    rw [hQ]
    exact r_z (r := (nI 1)) (u := ()) hx hb hr (by decide) (by first | exact c11.symm | (cases hb9 : bitI (g.1 (11 + k)) w; rfl; rw [hb9] at c11; exact absurd rfl c11)) hSep hS (by first | exact Nat.le_of_ble_eq_true rfl | omega | (dsimp only; omega)) (by first | exact Nat.le_of_ble_eq_true rfl | omega | (dsimp only; omega)) dX4_likes_19 hlocks

set_option maxHeartbeats 600000 in
set_option maxRecDepth 100000 in
theorem m_X4_isRemembered (l : Launch) (G : EVT) (sz : Nat) (a : Nat) (f : Nat → Int32) (g : GS) (w : Nat) (he : Enc f g) (ho : gOk g) (hw : w < 2147483648) : Met l yX4_isRemembered (ws_ yX4_isRemembered cX4_isRemembered 4 (some .boolean)) ({ frames := 1, cells := 0, slots := 0, locals := 22 } : Room) (SPc G (fun _ => False) sz [.ref a, .int (nI w)] [] (fun H => va_P G.1 clA [(a, .inl (G.2.1 0, 89, .inl f))] H)) (SQi G (fun _ => False) sz (fun (r : Int32) (u : Unit) => r = (bI (decide (w ∈ gRem g)))) (fun (u : Unit) => [])) (0) (0) (Fz (fun _ => False) sz) := by
  refine sp_of RX4 (by decide) rfl (Nat.le_of_ble_eq_true rfl) ?_
  intro p e s m args below meth c ls QQ hx hb hr hts hown hlocks hml hnm hsz hSep hΦ hE hS hl hQ
  subst hsz
  have hK := hE.1
  have hl : lv_has ls 4 [(0, .ref a), (1, .int (nI w))] := hl
  obtain ⟨hm6, hm7⟩ := gMem_ok ho
  refine lv_iconst (v := (nI 0)) hx hb dX4_isRemembered_0 (by decide) ?_
  refine lv_istore_n (lv' := [(2, .int (nI 0)), (0, .ref a), (1, .int (nI w))]) hx hb dX4_isRemembered_1 rfl hl (by decide) rfl (fun ls hl => ?_)
  have L2 : ∀ (fu : Nat) (k : Nat) , gMem g - k < fu → (k ≤ gMem g) → (∀ j, j < k → w ∉ gLog g j) → ∀ (H : Heap) (locs : List Loc) (ls : Array Slot), Sep G.1 clA (Fz (fun _ => False) s.heap.size) [] H → va_S (Fz (fun _ => False) s.heap.size) s.heap H locs → lv_has ls 4 [(2, .int (nI k)), (0, .ref a), (1, .int (nI w))] → W p l e ({ frames := 1, cells := 0, slots := 0, locals := 22 } : Room) s m args below meth c H locs (0) (0) QQ (F0 m 2 ls []) := by
    intro fu
    induction fu with
    | zero => intro k hm; exact absurd hm (Nat.not_lt_zero _)
    | succ fu ih2 =>
      intro k hm2 hp2_0 hp2_1 H locs ls hSep hS hl
      refine lv_iload_n hx hb dX4_isRemembered_2 rfl (lv_at hl 0 rfl) ?_
      refine lv_aload_n hx hb dX4_isRemembered_3 rfl (lv_at hl 1 rfl) ?_
      refine lv_bipush (v := (nI 7)) hx hb dX4_isRemembered_4 (by decide) ?_
      refine n_iald (i := 7) hx hb hK ((ro0 hΦ hS).sub [0] rfl) 0 rfl (by omega) (by omega) dX4_isRemembered_6 ?_
      refine n_eq (y := (nI (gMem g))) ((he.num (by decide)).trans hm7) ?_
      refine n_icmp_ge (tgt := 41) hx hb (by omega) (by omega) dX4_isRemembered_7 (by decide) (fun c7 => ?_) (fun c7 => ?_)
      · refine lv_iconst (v := (nI 0)) hx hb dX4_isRemembered_41 (by decide) ?_
        rw [hQ]
        exact r_z (r := (nI 0)) (u := ()) hx hb hr (by decide) ((bI_df (fun h => by obtain ⟨k9, h1, h2⟩ := gRem_mem.mp h; exact hp2_1 k9 (by omega) h2)).symm) hSep hS (by first | exact Nat.le_of_ble_eq_true rfl | omega | (dsimp only; omega)) (by first | exact Nat.le_of_ble_eq_true rfl | omega | (dsimp only; omega)) dX4_isRemembered_42 hlocks
      · refine lv_iconst (v := (nI 0)) hx hb dX4_isRemembered_10 (by decide) ?_
        refine lv_istore_n (lv' := [(3, .int (nI 0)), (2, .int (nI k)), (0, .ref a), (1, .int (nI w))]) hx hb dX4_isRemembered_11 rfl hl (by decide) rfl (fun ls hl => ?_)
        have L12 : ∀ (fu : Nat) (i : Nat) , 5 - i < fu → (i ≤ 5) → (∀ j, j < i → j < (gLog g k).length → (gLog g k).getD j 0 ≠ w) → ∀ (H : Heap) (locs : List Loc) (ls : Array Slot), Sep G.1 clA (Fz (fun _ => False) s.heap.size) [] H → va_S (Fz (fun _ => False) s.heap.size) s.heap H locs → lv_has ls 4 [(3, .int (nI i)), (2, .int (nI k)), (0, .ref a), (1, .int (nI w))] → W p l e ({ frames := 1, cells := 0, slots := 0, locals := 22 } : Room) s m args below meth c H locs (0) (0) QQ (F0 m 12 ls []) := by
          intro fu
          induction fu with
          | zero => intro i hm; exact absurd hm (Nat.not_lt_zero _)
          | succ fu ih12 =>
            intro i hm12 hp12_0 hp12_1 H locs ls hSep hS hl
            refine lv_iload_n hx hb dX4_isRemembered_12 rfl (lv_at hl 0 rfl) ?_
            refine lv_iconst (v := (nI 5)) hx hb dX4_isRemembered_13 (by decide) ?_
            refine n_icmp_ge (tgt := 35) hx hb (by omega) (by omega) dX4_isRemembered_14 (by decide) (fun c14 => ?_) (fun c14 => ?_)
            · refine lv_iinc (v := (nI (k + 1))) (lv' := [(2, .int (nI (k + 1))), (3, .int (nI i)), (0, .ref a), (1, .int (nI w))]) hx hb dX4_isRemembered_35 hl (k := 1) rfl (nI_inc k 1) (by decide) rfl (fun ls hl => ?_)
              refine lv_goto (tgt := 2) hx hb dX4_isRemembered_38 (by decide) ?_
              exact ih2 (k + 1) (by omega) (by omega) (fun j h => by rcases Nat.lt_succ_iff_lt_or_eq.mp h with z | z; exact hp2_1 j z; rw [z]; exact fun hm => by obtain ⟨i9, h1, h2⟩ := mem_getD hm; have := (gLog_ok ho k).1; exact hp12_1 i9 (by omega) h1 h2) _ _ _ hSep hS (lv_sub hl [0, 2, 3] rfl)
            · refine lv_aload_n hx hb dX4_isRemembered_17 rfl (lv_at hl 2 rfl) ?_
              refine lv_iload_n hx hb dX4_isRemembered_18 rfl (lv_at hl 1 rfl) ?_
              refine lv_iload_n hx hb dX4_isRemembered_19 rfl (lv_at hl 0 rfl) ?_
              have hFk_1 : ∀ q, Fz (fun _ => False) H.size q → (Fz (fun _ => False) s.heap.size) q := fun q h => by rcases h with h | h; exact h.elim; exact Fz.new (Nat.le_trans hS.1 h)
              have hPk_1 : Sep G.1 clA (Fz (fun _ => False) H.size) [] H := sp_nil
              have hJk_1 := sp_nilJ (F := (fun _ => False)) hSep (fun _ => id) hFk_1
              refine c_i (va_runS (As := [.ref a, .int (nI k), .int (nI i)]) (rest := []) ⟨hx, hb, hml, hown, hts⟩ (m_X4_logged l G H.size a f g k i (by first | assumption | omega) (by first | assumption | omega) (by first | assumption | omega) (by first | assumption | omega)) (va_cwS 3 hts (lw_S q1567 q1568 q44 q1569) rfl rfl rfl (by decide +kernel) ⟨Nat.le_of_ble_eq_true rfl, Nat.le_of_ble_eq_true rfl⟩) (sp_preS hE hS hFk_1 hPk_1 ((ro0 hΦ hS).sub [0] rfl)) rfl rfl hl.1 rfl (lv_room (Nat.le_of_ble_eq_true rfl)) dX4_isRemembered_20 ⟨by first | exact Nat.le_of_ble_eq_true rfl | omega | (dsimp only; omega), by first | exact Nat.le_of_ble_eq_true rfl | omega | (dsimp only; omega)⟩) hS hFk_1 hJk_1 (fun r_2 u_3 H locs hpk_1 hSep hS hzk_1 => ?_)
              obtain rfl : r_2 = (lgV g k i) := hpk_1
              refine W.cs (cells' := 0) (slots' := 0) rfl rfl ?_
              have hSep : Sep G.1 clA (Fz (fun _ => False) s.heap.size) [] H := hSep
              refine lv_iload_n hx hb dX4_isRemembered_23 rfl (lv_at hl 3 rfl) ?_
              refine lv_icmp_ne (tgt := 29) hx hb dX4_isRemembered_24 (by decide) (fun c24 => ?_) (fun c24 => ?_)
              · refine lv_iinc (v := (nI (i + 1))) (lv' := [(3, .int (nI (i + 1))), (2, .int (nI k)), (0, .ref a), (1, .int (nI w))]) hx hb dX4_isRemembered_29 hl (k := 0) rfl (nI_inc i 1) (by decide) rfl (fun ls hl => ?_)
                refine lv_goto (tgt := 12) hx hb dX4_isRemembered_32 (by decide) ?_
                exact ih12 (i + 1) (by omega) (by omega) (fun j h h2 => by rcases Nat.lt_succ_iff_lt_or_eq.mp h with z | z; exact hp12_1 j z h2; rw [z]; exact fun e => c24 ((lgV_eq ho hw).mpr ⟨by omega, e⟩)) _ _ _ hSep hS (lv_sub hl [0, 1, 2, 3] rfl)
              · refine lv_iconst (v := (nI 1)) hx hb dX4_isRemembered_27 (by decide) ?_
                rw [hQ]
                exact r_z (r := (nI 1)) (u := ()) hx hb hr (by decide) ((bI_dt (gRem_mem.mpr ⟨k, by omega, by obtain ⟨h1, h2⟩ := (lgV_eq ho hw).mp (c24); rw [← h2]; exact getD_mem h1⟩)).symm) hSep hS (by first | exact Nat.le_of_ble_eq_true rfl | omega | (dsimp only; omega)) (by first | exact Nat.le_of_ble_eq_true rfl | omega | (dsimp only; omega)) dX4_isRemembered_28 hlocks
        exact L12 (5 - 0 + 1) 0 (Nat.lt_succ_self _) (by omega) (fun j h => absurd h (Nat.not_lt_zero _)) _ _ _ hSep hS (lv_sub hl [0, 1, 2, 3] rfl)
  exact L2 (gMem g - 0 + 1) 0 (Nat.lt_succ_self _) (Nat.zero_le _) (fun j h => absurd h (Nat.not_lt_zero _)) _ _ _ hSep hS (lv_sub hl [0, 1, 2] rfl)
