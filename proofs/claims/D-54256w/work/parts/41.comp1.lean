set_option maxRecDepth 100000
set_option maxHeartbeats 600000 in
set_option maxRecDepth 100000 in
theorem m_X1_inRange (l : Launch) (G : EVT) (sz : Nat) (v : Int64) (lo : Int64) (hi : Int64)  : Met l yX1_inRange (ws_ yX1_inRange cX1_inRange 6 (some .boolean)) ({ frames := 0, cells := 0, slots := 0, locals := 0 } : Room) (SPc G (fun _ => False) sz [.long v, .long lo, .long hi] [] (fun _ => True)) (SQi G (fun _ => False) sz (fun (r : Int32) (u : Unit) => r = (bI (inR v.toInt lo.toInt hi.toInt))) (fun (u : Unit) => [])) (0) (0) (Fz (fun _ => False) sz) := by
  refine sp_of RX1 (by decide) rfl (Nat.le_of_ble_eq_true rfl) ?_
  intro p e s m args below meth c ls QQ hx hb hr hts hown hlocks hml hnm hsz hSep hΦ hE hS hl hQ
  subst hsz
  have hK := hE.1
  have hl : lv_has ls 6 [(0, .long v), (2, .long lo), (4, .long hi)] := hl
  refine lv_lload_n hx hb dX1_inRange_0 rfl (lv_at hl 0 rfl) ?_
  refine lv_lload_n hx hb dX1_inRange_1 rfl (lv_at hl 1 rfl) ?_
  refine W.lcmp hx hb dX1_inRange_2 ?_
  refine lv_if_lt (tgt := 17) hx hb dX1_inRange_3 (by decide) (fun c3 => ?_) (fun c3 => ?_)
  · refine lv_iconst (v := (nI 0)) hx hb dX1_inRange_17 (by decide) ?_
    rw [hQ]
    exact r_z (r := (nI 0)) (u := ()) hx hb hr (by decide) (by first | exact (bI_dt ⟨Int64.le_iff_toInt_le.mp (Int64.not_lt.mp (fun h => c3 ((lg_cmp_lt v lo).mpr h))), Int64.le_iff_toInt_le.mp (Int64.not_lt.mp (fun h => c10 ((lg_cmp_gt v hi).mpr h)))⟩).symm | exact (bI_df (fun h => absurd (Int64.le_iff_toInt_le.mpr h.2) (Int64.not_le.mpr ((lg_cmp_gt v hi).mp c10)))).symm | exact (bI_df (fun h => absurd (Int64.le_iff_toInt_le.mpr h.1) (Int64.not_le.mpr ((lg_cmp_lt v lo).mp c3)))).symm) hSep hS (by first | exact Nat.le_of_ble_eq_true rfl | omega | (dsimp only; omega)) (by first | exact Nat.le_of_ble_eq_true rfl | omega | (dsimp only; omega)) dX1_inRange_18 hlocks
  · refine lv_lload_n hx hb dX1_inRange_6 rfl (lv_at hl 0 rfl) ?_
    refine lv_lload hx hb dX1_inRange_7 (lv_at hl 2 rfl) ?_
    refine W.lcmp hx hb dX1_inRange_9 ?_
    refine lv_if_gt (tgt := 17) hx hb dX1_inRange_10 (by decide) (fun c10 => ?_) (fun c10 => ?_)
    · refine lv_iconst (v := (nI 0)) hx hb dX1_inRange_17 (by decide) ?_
      rw [hQ]
      exact r_z (r := (nI 0)) (u := ()) hx hb hr (by decide) (by first | exact (bI_dt ⟨Int64.le_iff_toInt_le.mp (Int64.not_lt.mp (fun h => c3 ((lg_cmp_lt v lo).mpr h))), Int64.le_iff_toInt_le.mp (Int64.not_lt.mp (fun h => c10 ((lg_cmp_gt v hi).mpr h)))⟩).symm | exact (bI_df (fun h => absurd (Int64.le_iff_toInt_le.mpr h.2) (Int64.not_le.mpr ((lg_cmp_gt v hi).mp c10)))).symm | exact (bI_df (fun h => absurd (Int64.le_iff_toInt_le.mpr h.1) (Int64.not_le.mpr ((lg_cmp_lt v lo).mp c3)))).symm) hSep hS (by first | exact Nat.le_of_ble_eq_true rfl | omega | (dsimp only; omega)) (by first | exact Nat.le_of_ble_eq_true rfl | omega | (dsimp only; omega)) dX1_inRange_18 hlocks
    · refine lv_iconst (v := (nI 1)) hx hb dX1_inRange_13 (by decide) ?_
      refine lv_goto (tgt := 18) hx hb dX1_inRange_14 (by decide) ?_
      rw [hQ]
      exact r_z (r := (nI 1)) (u := ()) hx hb hr (by decide) (by first | exact (bI_dt ⟨Int64.le_iff_toInt_le.mp (Int64.not_lt.mp (fun h => c3 ((lg_cmp_lt v lo).mpr h))), Int64.le_iff_toInt_le.mp (Int64.not_lt.mp (fun h => c10 ((lg_cmp_gt v hi).mpr h)))⟩).symm | exact (bI_df (fun h => absurd (Int64.le_iff_toInt_le.mpr h.2) (Int64.not_le.mpr ((lg_cmp_gt v hi).mp c10)))).symm | exact (bI_df (fun h => absurd (Int64.le_iff_toInt_le.mpr h.1) (Int64.not_le.mpr ((lg_cmp_lt v lo).mp c3)))).symm) hSep hS (by first | exact Nat.le_of_ble_eq_true rfl | omega | (dsimp only; omega)) (by first | exact Nat.le_of_ble_eq_true rfl | omega | (dsimp only; omega)) dX1_inRange_18 hlocks

set_option maxHeartbeats 600000 in
set_option maxRecDepth 100000 in
theorem m_X1_isTeller (l : Launch) (G : EVT) (sz : Nat) (x : Int32)  : Met l yX1_isTeller (ws_ yX1_isTeller cX1_isTeller 1 (some .boolean)) ({ frames := 1, cells := 0, slots := 0, locals := 25 } : Room) (SPc G (fun _ => False) sz [.int x] [] (fun _ => True)) (SQi G (fun _ => False) sz (fun (r : Int32) (u : Unit) => r = (bI (inR x.toInt 0 1))) (fun (u : Unit) => [])) (0) (0) (Fz (fun _ => False) sz) := by
  refine sp_of RX1 (by decide) rfl (Nat.le_of_ble_eq_true rfl) ?_
  intro p e s m args below meth c ls QQ hx hb hr hts hown hlocks hml hnm hsz hSep hΦ hE hS hl hQ
  subst hsz
  have hK := hE.1
  have hl : lv_has ls 1 [(0, .int x)] := hl
  refine lv_iload_n hx hb dX1_isTeller_0 rfl (lv_at hl 0 rfl) ?_
  refine lv_i2l hx hb dX1_isTeller_1 rfl ?_
  refine lv_lconst (v := 0) hx hb dX1_isTeller_2 (by decide) ?_
  refine lv_lconst (v := 1) hx hb dX1_isTeller_3 (by decide) ?_
  have hFk_1 : ∀ q, Fz (fun _ => False) s.heap.size q → (Fz (fun _ => False) s.heap.size) q := fun q h => by rcases h with h | h; exact h.elim; exact Fz.new (Nat.le_trans hS.1 h)
  have hPk_1 : Sep G.1 clA (Fz (fun _ => False) s.heap.size) [] s.heap := sp_nil
  have hJk_1 := sp_nilJ (F := (fun _ => False)) hSep (fun _ => id) hFk_1
  refine c_i (va_runS (As := [.long x.toInt64, .long (0 : Int64), .long (1 : Int64)]) (rest := []) ⟨hx, hb, hml, hown, hts⟩ (m_X1_inRange l G s.heap.size x.toInt64 (0 : Int64) (1 : Int64) ) (va_cwS 3 hts (lw_S q168 q169 q39 q170) rfl rfl rfl (by decide +kernel) ⟨Nat.le_of_ble_eq_true rfl, Nat.le_of_ble_eq_true rfl⟩) (sp_preS hE hS hFk_1 hPk_1 trivial) rfl rfl hl.1 rfl (lv_room (Nat.le_of_ble_eq_true rfl)) dX1_isTeller_4 ⟨by first | exact Nat.le_of_ble_eq_true rfl | omega | (dsimp only; omega), by first | exact Nat.le_of_ble_eq_true rfl | omega | (dsimp only; omega)⟩) hS hFk_1 hJk_1 (fun r_2 u_3 H locs hpk_1 hSep hS hzk_1 => ?_)
  obtain rfl : r_2 = (bI (inR x.toInt64.toInt (0 : Int64).toInt (1 : Int64).toInt)) := hpk_1
  refine W.cs (cells' := 0) (slots' := 0) rfl rfl ?_
  have hSep : Sep G.1 clA (Fz (fun _ => False) s.heap.size) [] H := hSep
  refine n_eq (y := (bI (inR x.toInt 0 1))) (by rw [Int32.toInt_toInt64]; rfl) ?_
  rw [hQ]
  exact r_z (r := (bI (inR x.toInt 0 1))) (u := ()) hx hb hr (bI_nar _) (rfl) hSep hS (by first | exact Nat.le_of_ble_eq_true rfl | omega | (dsimp only; omega)) (by first | exact Nat.le_of_ble_eq_true rfl | omega | (dsimp only; omega)) dX1_isTeller_7 hlocks

set_option maxHeartbeats 600000 in
set_option maxRecDepth 100000 in
theorem m_X1_isWord (l : Launch) (G : EVT) (sz : Nat) (x : Int32)  : Met l yX1_isWord (ws_ yX1_isWord cX1_isWord 1 (some .boolean)) ({ frames := 1, cells := 0, slots := 0, locals := 25 } : Room) (SPc G (fun _ => False) sz [.int x] [] (fun _ => True)) (SQi G (fun _ => False) sz (fun (r : Int32) (u : Unit) => r = (bI (inR x.toInt 0 17))) (fun (u : Unit) => [])) (0) (0) (Fz (fun _ => False) sz) := by
  refine sp_of RX1 (by decide) rfl (Nat.le_of_ble_eq_true rfl) ?_
  intro p e s m args below meth c ls QQ hx hb hr hts hown hlocks hml hnm hsz hSep hΦ hE hS hl hQ
  subst hsz
  have hK := hE.1
  have hl : lv_has ls 1 [(0, .int x)] := hl
  refine lv_iload_n hx hb dX1_isWord_0 rfl (lv_at hl 0 rfl) ?_
  refine lv_i2l hx hb dX1_isWord_1 rfl ?_
  refine lv_lconst (v := 0) hx hb dX1_isWord_2 (by decide) ?_
  refine lv_ldc2 (v := 17) hx hb hown (hts _ q167) dX1_isWord_3 ?_
  have hFk_1 : ∀ q, Fz (fun _ => False) s.heap.size q → (Fz (fun _ => False) s.heap.size) q := fun q h => by rcases h with h | h; exact h.elim; exact Fz.new (Nat.le_trans hS.1 h)
  have hPk_1 : Sep G.1 clA (Fz (fun _ => False) s.heap.size) [] s.heap := sp_nil
  have hJk_1 := sp_nilJ (F := (fun _ => False)) hSep (fun _ => id) hFk_1
  refine c_i (va_runS (As := [.long x.toInt64, .long (0 : Int64), .long (17 : Int64)]) (rest := []) ⟨hx, hb, hml, hown, hts⟩ (m_X1_inRange l G s.heap.size x.toInt64 (0 : Int64) (17 : Int64) ) (va_cwS 3 hts (lw_S q168 q169 q39 q170) rfl rfl rfl (by decide +kernel) ⟨Nat.le_of_ble_eq_true rfl, Nat.le_of_ble_eq_true rfl⟩) (sp_preS hE hS hFk_1 hPk_1 trivial) rfl rfl hl.1 rfl (lv_room (Nat.le_of_ble_eq_true rfl)) dX1_isWord_6 ⟨by first | exact Nat.le_of_ble_eq_true rfl | omega | (dsimp only; omega), by first | exact Nat.le_of_ble_eq_true rfl | omega | (dsimp only; omega)⟩) hS hFk_1 hJk_1 (fun r_2 u_3 H locs hpk_1 hSep hS hzk_1 => ?_)
  obtain rfl : r_2 = (bI (inR x.toInt64.toInt (0 : Int64).toInt (17 : Int64).toInt)) := hpk_1
  refine W.cs (cells' := 0) (slots' := 0) rfl rfl ?_
  have hSep : Sep G.1 clA (Fz (fun _ => False) s.heap.size) [] H := hSep
  refine n_eq (y := (bI (inR x.toInt 0 17))) (by rw [Int32.toInt_toInt64]; rfl) ?_
  rw [hQ]
  exact r_z (r := (bI (inR x.toInt 0 17))) (u := ()) hx hb hr (bI_nar _) (rfl) hSep hS (by first | exact Nat.le_of_ble_eq_true rfl | omega | (dsimp only; omega)) (by first | exact Nat.le_of_ble_eq_true rfl | omega | (dsimp only; omega)) dX1_isWord_9 hlocks

set_option maxHeartbeats 600000 in
set_option maxRecDepth 100000 in
theorem m_X1_isListener (l : Launch) (G : EVT) (sz : Nat) (x : Int32)  : Met l yX1_isListener (ws_ yX1_isListener cX1_isListener 1 (some .boolean)) ({ frames := 1, cells := 0, slots := 0, locals := 25 } : Room) (SPc G (fun _ => False) sz [.int x] [] (fun _ => True)) (SQi G (fun _ => False) sz (fun (r : Int32) (u : Unit) => r = (bI (inR x.toInt 0 2))) (fun (u : Unit) => [])) (0) (0) (Fz (fun _ => False) sz) := by
  refine sp_of RX1 (by decide) rfl (Nat.le_of_ble_eq_true rfl) ?_
  intro p e s m args below meth c ls QQ hx hb hr hts hown hlocks hml hnm hsz hSep hΦ hE hS hl hQ
  subst hsz
  have hK := hE.1
  have hl : lv_has ls 1 [(0, .int x)] := hl
  refine lv_iload_n hx hb dX1_isListener_0 rfl (lv_at hl 0 rfl) ?_
  refine lv_i2l hx hb dX1_isListener_1 rfl ?_
  refine lv_lconst (v := 0) hx hb dX1_isListener_2 (by decide) ?_
  refine lv_ldc2 (v := 2) hx hb hown (hts _ q1186) dX1_isListener_3 ?_
  have hFk_1 : ∀ q, Fz (fun _ => False) s.heap.size q → (Fz (fun _ => False) s.heap.size) q := fun q h => by rcases h with h | h; exact h.elim; exact Fz.new (Nat.le_trans hS.1 h)
  have hPk_1 : Sep G.1 clA (Fz (fun _ => False) s.heap.size) [] s.heap := sp_nil
  have hJk_1 := sp_nilJ (F := (fun _ => False)) hSep (fun _ => id) hFk_1
  refine c_i (va_runS (As := [.long x.toInt64, .long (0 : Int64), .long (2 : Int64)]) (rest := []) ⟨hx, hb, hml, hown, hts⟩ (m_X1_inRange l G s.heap.size x.toInt64 (0 : Int64) (2 : Int64) ) (va_cwS 3 hts (lw_S q168 q169 q39 q170) rfl rfl rfl (by decide +kernel) ⟨Nat.le_of_ble_eq_true rfl, Nat.le_of_ble_eq_true rfl⟩) (sp_preS hE hS hFk_1 hPk_1 trivial) rfl rfl hl.1 rfl (lv_room (Nat.le_of_ble_eq_true rfl)) dX1_isListener_6 ⟨by first | exact Nat.le_of_ble_eq_true rfl | omega | (dsimp only; omega), by first | exact Nat.le_of_ble_eq_true rfl | omega | (dsimp only; omega)⟩) hS hFk_1 hJk_1 (fun r_2 u_3 H locs hpk_1 hSep hS hzk_1 => ?_)
  obtain rfl : r_2 = (bI (inR x.toInt64.toInt (0 : Int64).toInt (2 : Int64).toInt)) := hpk_1
  refine W.cs (cells' := 0) (slots' := 0) rfl rfl ?_
  have hSep : Sep G.1 clA (Fz (fun _ => False) s.heap.size) [] H := hSep
  refine n_eq (y := (bI (inR x.toInt 0 2))) (by rw [Int32.toInt_toInt64]; rfl) ?_
  rw [hQ]
  exact r_z (r := (bI (inR x.toInt 0 2))) (u := ()) hx hb hr (bI_nar _) (rfl) hSep hS (by first | exact Nat.le_of_ble_eq_true rfl | omega | (dsimp only; omega)) (by first | exact Nat.le_of_ble_eq_true rfl | omega | (dsimp only; omega)) dX1_isListener_9 hlocks

set_option maxHeartbeats 600000 in
set_option maxRecDepth 100000 in
theorem m_X1_has (l : Launch) (G : EVT) (sz : Nat) (x : Int32) (k : Nat) (hk : k < 32) : Met l yX1_has (ws_ yX1_has cX1_has 2 (some .boolean)) ({ frames := 0, cells := 0, slots := 0, locals := 0 } : Room) (SPc G (fun _ => False) sz [.int x, .int (nI k)] [] (fun _ => True)) (SQi G (fun _ => False) sz (fun (r : Int32) (u : Unit) => r = (bI (bitI x k))) (fun (u : Unit) => [])) (0) (0) (Fz (fun _ => False) sz) := by
  refine sp_of RX1 (by decide) rfl (Nat.le_of_ble_eq_true rfl) ?_
  intro p e s m args below meth c ls QQ hx hb hr hts hown hlocks hml hnm hsz hSep hΦ hE hS hl hQ
  subst hsz
  have hK := hE.1
  have hl : lv_has ls 2 [(0, .int x), (1, .int (nI k))] := hl
  refine lv_iload_n hx hb dX1_has_0 rfl (lv_at hl 0 rfl) ?_
  refine lv_iload_n hx hb dX1_has_1 rfl (lv_at hl 1 rfl) ?_
  refine lv_ishr hx hb dX1_has_2 ?_
  refine lv_iconst (v := (nI 1)) hx hb dX1_has_3 (by decide) ?_
  refine lv_iand hx hb dX1_has_4 ?_
  refine n_eq (y := (bI (bitI x k))) (bit_shr x hk) ?_
  refine lv_iconst (v := (nI 1)) hx hb dX1_has_5 (by decide) ?_
  refine lv_icmp_ne (tgt := 13) hx hb dX1_has_6 (by decide) (fun c6 => ?_) (fun c6 => ?_)
  · refine lv_iconst (v := (nI 0)) hx hb dX1_has_13 (by decide) ?_
    rw [hQ]
    exact r_z (r := (nI 0)) (u := ()) hx hb hr (by decide) (by first | exact congrArg bI (show true = bitI x k by cases h : bitI x k; rw [h] at c6; exact absurd c6 (by decide); rfl) | exact congrArg bI (show false = bitI x k by cases h : bitI x k; rfl; rw [h] at c6; exact absurd rfl c6)) hSep hS (by first | exact Nat.le_of_ble_eq_true rfl | omega | (dsimp only; omega)) (by first | exact Nat.le_of_ble_eq_true rfl | omega | (dsimp only; omega)) dX1_has_14 hlocks
  · refine lv_iconst (v := (nI 1)) hx hb dX1_has_9 (by decide) ?_
    refine lv_goto (tgt := 14) hx hb dX1_has_10 (by decide) ?_
    rw [hQ]
    exact r_z (r := (nI 1)) (u := ()) hx hb hr (by decide) (by first | exact congrArg bI (show true = bitI x k by cases h : bitI x k; rw [h] at c6; exact absurd c6 (by decide); rfl) | exact congrArg bI (show false = bitI x k by cases h : bitI x k; rfl; rw [h] at c6; exact absurd rfl c6)) hSep hS (by first | exact Nat.le_of_ble_eq_true rfl | omega | (dsimp only; omega)) (by first | exact Nat.le_of_ble_eq_true rfl | omega | (dsimp only; omega)) dX1_has_14 hlocks

set_option maxHeartbeats 600000 in
set_option maxRecDepth 100000 in
theorem m_X1_isSetting (l : Launch) (G : EVT) (sz : Nat) (x : Int32) (y : Int32)  : Met l yX1_isSetting (ws_ yX1_isSetting cX1_isSetting 2 (some .boolean)) ({ frames := 1, cells := 0, slots := 0, locals := 25 } : Room) (SPc G (fun _ => False) sz [.int x, .int y] [] (fun _ => True)) (SQi G (fun _ => False) sz (fun (r : Int32) (u : Unit) => r = (bI (setOk x y))) (fun (u : Unit) => [])) (0) (0) (Fz (fun _ => False) sz) := by
  refine sp_of RX1 (by decide) rfl (Nat.le_of_ble_eq_true rfl) ?_
  intro p e s m args below meth c ls QQ hx hb hr hts hown hlocks hml hnm hsz hSep hΦ hE hS hl hQ
  subst hsz
  have hK := hE.1
  have hl : lv_has ls 2 [(0, .int x), (1, .int y)] := hl
  refine lv_iload_n hx hb dX1_isSetting_0 rfl (lv_at hl 0 rfl) ?_
  by_cases z1_0 : x = nI 0
  · refine lv_tableIn (off := 31) (tgt := 32) hx hb dX1_isSetting_1 (by rw [z1_0]; decide) (by rw [z1_0]; decide) (by rw [z1_0]; decide) (by decide) ?_
    refine lv_iload_n hx hb dX1_isSetting_32 rfl (lv_at hl 1 rfl) ?_
    refine lv_i2l hx hb dX1_isSetting_33 rfl ?_
    refine lv_lconst (v := 0) hx hb dX1_isSetting_34 (by decide) ?_
    refine lv_ldc2 (v := 6) hx hb hown (hts _ q1312) dX1_isSetting_35 ?_
    have hFk_1 : ∀ q, Fz (fun _ => False) s.heap.size q → (Fz (fun _ => False) s.heap.size) q := fun q h => by rcases h with h | h; exact h.elim; exact Fz.new (Nat.le_trans hS.1 h)
    have hPk_1 : Sep G.1 clA (Fz (fun _ => False) s.heap.size) [] s.heap := sp_nil
    have hJk_1 := sp_nilJ (F := (fun _ => False)) hSep (fun _ => id) hFk_1
    refine c_i (va_runS (As := [.long y.toInt64, .long (0 : Int64), .long (6 : Int64)]) (rest := []) ⟨hx, hb, hml, hown, hts⟩ (m_X1_inRange l G s.heap.size y.toInt64 (0 : Int64) (6 : Int64) ) (va_cwS 3 hts (lw_S q168 q169 q39 q170) rfl rfl rfl (by decide +kernel) ⟨Nat.le_of_ble_eq_true rfl, Nat.le_of_ble_eq_true rfl⟩) (sp_preS hE hS hFk_1 hPk_1 trivial) rfl rfl hl.1 rfl (lv_room (Nat.le_of_ble_eq_true rfl)) dX1_isSetting_38 ⟨by first | exact Nat.le_of_ble_eq_true rfl | omega | (dsimp only; omega), by first | exact Nat.le_of_ble_eq_true rfl | omega | (dsimp only; omega)⟩) hS hFk_1 hJk_1 (fun r_2 u_3 H locs hpk_1 hSep hS hzk_1 => ?_)
    obtain rfl : r_2 = (bI (inR y.toInt64.toInt (0 : Int64).toInt (6 : Int64).toInt)) := hpk_1
    refine W.cs (cells' := 0) (slots' := 0) rfl rfl ?_
    have hSep : Sep G.1 clA (Fz (fun _ => False) s.heap.size) [] H := hSep
    refine n_eq (y := (bI (inR y.toInt 0 6))) (by rw [Int32.toInt_toInt64]; rfl) ?_
    refine lv_goto (tgt := 83) hx hb dX1_isSetting_41 (by decide) ?_
    rw [hQ]
    exact r_z (r := (bI (inR y.toInt 0 6))) (u := ()) hx hb hr (bI_nar _) (by unfold setOk setLo setHi; first | (rw [set_out z1_0 z1_1 z1_2 z1_3]; rfl) | (rw [z1_0]; rfl) | (rw [z1_1]; rfl) | (rw [z1_2]; rfl) | (rw [z1_3]; rfl)) hSep hS (by first | exact Nat.le_of_ble_eq_true rfl | omega | (dsimp only; omega)) (by first | exact Nat.le_of_ble_eq_true rfl | omega | (dsimp only; omega)) dX1_isSetting_83 hlocks
  by_cases z1_1 : x = nI 1
  · refine lv_tableIn (off := 43) (tgt := 44) hx hb dX1_isSetting_1 (by rw [z1_1]; decide) (by rw [z1_1]; decide) (by rw [z1_1]; decide) (by decide) ?_
    refine lv_iload_n hx hb dX1_isSetting_44 rfl (lv_at hl 1 rfl) ?_
    refine lv_i2l hx hb dX1_isSetting_45 rfl ?_
    refine lv_lconst (v := 1) hx hb dX1_isSetting_46 (by decide) ?_
    refine lv_ldc2 (v := 9) hx hb hown (hts _ q1313) dX1_isSetting_47 ?_
    have hFk_4 : ∀ q, Fz (fun _ => False) s.heap.size q → (Fz (fun _ => False) s.heap.size) q := fun q h => by rcases h with h | h; exact h.elim; exact Fz.new (Nat.le_trans hS.1 h)
    have hPk_4 : Sep G.1 clA (Fz (fun _ => False) s.heap.size) [] s.heap := sp_nil
    have hJk_4 := sp_nilJ (F := (fun _ => False)) hSep (fun _ => id) hFk_4
    refine c_i (va_runS (As := [.long y.toInt64, .long (1 : Int64), .long (9 : Int64)]) (rest := []) ⟨hx, hb, hml, hown, hts⟩ (m_X1_inRange l G s.heap.size y.toInt64 (1 : Int64) (9 : Int64) ) (va_cwS 3 hts (lw_S q168 q169 q39 q170) rfl rfl rfl (by decide +kernel) ⟨Nat.le_of_ble_eq_true rfl, Nat.le_of_ble_eq_true rfl⟩) (sp_preS hE hS hFk_4 hPk_4 trivial) rfl rfl hl.1 rfl (lv_room (Nat.le_of_ble_eq_true rfl)) dX1_isSetting_50 ⟨by first | exact Nat.le_of_ble_eq_true rfl | omega | (dsimp only; omega), by first | exact Nat.le_of_ble_eq_true rfl | omega | (dsimp only; omega)⟩) hS hFk_4 hJk_4 (fun r_5 u_6 H locs hpk_4 hSep hS hzk_4 => ?_)
    obtain rfl : r_5 = (bI (inR y.toInt64.toInt (1 : Int64).toInt (9 : Int64).toInt)) := hpk_4
    refine W.cs (cells' := 0) (slots' := 0) rfl rfl ?_
    have hSep : Sep G.1 clA (Fz (fun _ => False) s.heap.size) [] H := hSep
    refine n_eq (y := (bI (inR y.toInt 1 9))) (by rw [Int32.toInt_toInt64]; rfl) ?_
    refine lv_goto (tgt := 83) hx hb dX1_isSetting_53 (by decide) ?_
    rw [hQ]
    exact r_z (r := (bI (inR y.toInt 1 9))) (u := ()) hx hb hr (bI_nar _) (by unfold setOk setLo setHi; first | (rw [set_out z1_0 z1_1 z1_2 z1_3]; rfl) | (rw [z1_0]; rfl) | (rw [z1_1]; rfl) | (rw [z1_2]; rfl) | (rw [z1_3]; rfl)) hSep hS (by first | exact Nat.le_of_ble_eq_true rfl | omega | (dsimp only; omega)) (by first | exact Nat.le_of_ble_eq_true rfl | omega | (dsimp only; omega)) dX1_isSetting_83 hlocks
  by_cases z1_2 : x = nI 2
  · refine lv_tableIn (off := 55) (tgt := 56) hx hb dX1_isSetting_1 (by rw [z1_2]; decide) (by rw [z1_2]; decide) (by rw [z1_2]; decide) (by decide) ?_
    refine lv_iload_n hx hb dX1_isSetting_56 rfl (lv_at hl 1 rfl) ?_
    refine lv_i2l hx hb dX1_isSetting_57 rfl ?_
    refine lv_lconst (v := 1) hx hb dX1_isSetting_58 (by decide) ?_
    refine lv_ldc2 (v := 5) hx hb hown (hts _ q1314) dX1_isSetting_59 ?_
    have hFk_7 : ∀ q, Fz (fun _ => False) s.heap.size q → (Fz (fun _ => False) s.heap.size) q := fun q h => by rcases h with h | h; exact h.elim; exact Fz.new (Nat.le_trans hS.1 h)
    have hPk_7 : Sep G.1 clA (Fz (fun _ => False) s.heap.size) [] s.heap := sp_nil
    have hJk_7 := sp_nilJ (F := (fun _ => False)) hSep (fun _ => id) hFk_7
    refine c_i (va_runS (As := [.long y.toInt64, .long (1 : Int64), .long (5 : Int64)]) (rest := []) ⟨hx, hb, hml, hown, hts⟩ (m_X1_inRange l G s.heap.size y.toInt64 (1 : Int64) (5 : Int64) ) (va_cwS 3 hts (lw_S q168 q169 q39 q170) rfl rfl rfl (by decide +kernel) ⟨Nat.le_of_ble_eq_true rfl, Nat.le_of_ble_eq_true rfl⟩) (sp_preS hE hS hFk_7 hPk_7 trivial) rfl rfl hl.1 rfl (lv_room (Nat.le_of_ble_eq_true rfl)) dX1_isSetting_62 ⟨by first | exact Nat.le_of_ble_eq_true rfl | omega | (dsimp only; omega), by first | exact Nat.le_of_ble_eq_true rfl | omega | (dsimp only; omega)⟩) hS hFk_7 hJk_7 (fun r_8 u_9 H locs hpk_7 hSep hS hzk_7 => ?_)
    obtain rfl : r_8 = (bI (inR y.toInt64.toInt (1 : Int64).toInt (5 : Int64).toInt)) := hpk_7
    refine W.cs (cells' := 0) (slots' := 0) rfl rfl ?_
    have hSep : Sep G.1 clA (Fz (fun _ => False) s.heap.size) [] H := hSep
    refine n_eq (y := (bI (inR y.toInt 1 5))) (by rw [Int32.toInt_toInt64]; rfl) ?_
    refine lv_goto (tgt := 83) hx hb dX1_isSetting_65 (by decide) ?_
    rw [hQ]
    exact r_z (r := (bI (inR y.toInt 1 5))) (u := ()) hx hb hr (bI_nar _) (by unfold setOk setLo setHi; first | (rw [set_out z1_0 z1_1 z1_2 z1_3]; rfl) | (rw [z1_0]; rfl) | (rw [z1_1]; rfl) | (rw [z1_2]; rfl) | (rw [z1_3]; rfl)) hSep hS (by first | exact Nat.le_of_ble_eq_true rfl | omega | (dsimp only; omega)) (by first | exact Nat.le_of_ble_eq_true rfl | omega | (dsimp only; omega)) dX1_isSetting_83 hlocks
  by_cases z1_3 : x = nI 3
  · refine lv_tableIn (off := 67) (tgt := 68) hx hb dX1_isSetting_1 (by rw [z1_3]; decide) (by rw [z1_3]; decide) (by rw [z1_3]; decide) (by decide) ?_
    refine lv_iload_n hx hb dX1_isSetting_68 rfl (lv_at hl 1 rfl) ?_
    refine lv_i2l hx hb dX1_isSetting_69 rfl ?_
    refine lv_ldc2 (v := 5) hx hb hown (hts _ q1314) dX1_isSetting_70 ?_
    refine lv_ldc2 (v := 99) hx hb hown (hts _ q1315) dX1_isSetting_73 ?_
    have hFk_10 : ∀ q, Fz (fun _ => False) s.heap.size q → (Fz (fun _ => False) s.heap.size) q := fun q h => by rcases h with h | h; exact h.elim; exact Fz.new (Nat.le_trans hS.1 h)
    have hPk_10 : Sep G.1 clA (Fz (fun _ => False) s.heap.size) [] s.heap := sp_nil
    have hJk_10 := sp_nilJ (F := (fun _ => False)) hSep (fun _ => id) hFk_10
    refine c_i (va_runS (As := [.long y.toInt64, .long (5 : Int64), .long (99 : Int64)]) (rest := []) ⟨hx, hb, hml, hown, hts⟩ (m_X1_inRange l G s.heap.size y.toInt64 (5 : Int64) (99 : Int64) ) (va_cwS 3 hts (lw_S q168 q169 q39 q170) rfl rfl rfl (by decide +kernel) ⟨Nat.le_of_ble_eq_true rfl, Nat.le_of_ble_eq_true rfl⟩) (sp_preS hE hS hFk_10 hPk_10 trivial) rfl rfl hl.1 rfl (lv_room (Nat.le_of_ble_eq_true rfl)) dX1_isSetting_76 ⟨by first | exact Nat.le_of_ble_eq_true rfl | omega | (dsimp only; omega), by first | exact Nat.le_of_ble_eq_true rfl | omega | (dsimp only; omega)⟩) hS hFk_10 hJk_10 (fun r_11 u_12 H locs hpk_10 hSep hS hzk_10 => ?_)
    obtain rfl : r_11 = (bI (inR y.toInt64.toInt (5 : Int64).toInt (99 : Int64).toInt)) := hpk_10
    refine W.cs (cells' := 0) (slots' := 0) rfl rfl ?_
    have hSep : Sep G.1 clA (Fz (fun _ => False) s.heap.size) [] H := hSep
    refine n_eq (y := (bI (inR y.toInt 5 99))) (by rw [Int32.toInt_toInt64]; rfl) ?_
    refine lv_goto (tgt := 83) hx hb dX1_isSetting_79 (by decide) ?_
    rw [hQ]
    exact r_z (r := (bI (inR y.toInt 5 99))) (u := ()) hx hb hr (bI_nar _) (by unfold setOk setLo setHi; first | (rw [set_out z1_0 z1_1 z1_2 z1_3]; rfl) | (rw [z1_0]; rfl) | (rw [z1_1]; rfl) | (rw [z1_2]; rfl) | (rw [z1_3]; rfl)) hSep hS (by first | exact Nat.le_of_ble_eq_true rfl | omega | (dsimp only; omega)) (by first | exact Nat.le_of_ble_eq_true rfl | omega | (dsimp only; omega)) dX1_isSetting_83 hlocks
  refine lv_tableOut (tgt := 82) hx hb dX1_isSetting_1 (by have := out4 z1_0 z1_1 z1_2 z1_3; omega) (by decide) ?_
  refine lv_iconst (v := (nI 0)) hx hb dX1_isSetting_82 (by decide) ?_
  rw [hQ]
  exact r_z (r := (nI 0)) (u := ()) hx hb hr (by decide) (by unfold setOk setLo setHi; first | (rw [set_out z1_0 z1_1 z1_2 z1_3]; rfl) | (rw [z1_0]; rfl) | (rw [z1_1]; rfl) | (rw [z1_2]; rfl) | (rw [z1_3]; rfl)) hSep hS (by first | exact Nat.le_of_ble_eq_true rfl | omega | (dsimp only; omega)) (by first | exact Nat.le_of_ble_eq_true rfl | omega | (dsimp only; omega)) dX1_isSetting_83 hlocks

set_option maxHeartbeats 600000 in
set_option maxRecDepth 100000 in
theorem m_X5_next (l : Launch) (G : EVT) (sz : Nat) (q : Nat) (w : Nat) (hq : q ≤ 5) (hw : w < 18) : Met l yX5_next (ws_ yX5_next cX5_next 3 (some .int)) ({ frames := 0, cells := 0, slots := 0, locals := 0 } : Room) (SPc G (fun _ => False) sz [.int (nI q), .int (nI w)] [] (fun _ => True)) (SQi G (fun _ => False) sz (fun (r : Int32) (u : Unit) => r = (gNI q w)) (fun (u : Unit) => [])) (0) (0) (Fz (fun _ => False) sz) := by
  refine sp_of RX5 (by decide) rfl (Nat.le_of_ble_eq_true rfl) ?_
  intro p e s m args below meth c ls QQ hx hb hr hts hown hlocks hml hnm hsz hSep hΦ hE hS hl hQ
  subst hsz
  have hK := hE.1
  have hl : lv_has ls 3 [(0, .int (nI q)), (1, .int (nI w))] := hl
  refine lv_iload_n hx hb dX5_next_0 rfl (lv_at hl 1 rfl) ?_
  refine lv_iconst (v := (nI 3)) hx hb dX5_next_1 (by decide) ?_
  refine n_irem hx hb (by omega) (by omega) (by omega) dX5_next_2 ?_
  refine lv_istore_n (lv' := [(2, .int (nI (w % 3))), (0, .int (nI q)), (1, .int (nI w))]) hx hb dX5_next_3 rfl hl (by decide) rfl (fun ls hl => ?_)
  refine lv_iload_n hx hb dX5_next_4 rfl (lv_at hl 1 rfl) ?_
  by_cases z5_0 : q = 0
  · refine lv_tableIn (off := 35) (tgt := 40) hx hb dX5_next_5 (by rw [z5_0]; decide) (by rw [z5_0]; decide) (by rw [z5_0]; decide) (by decide) ?_
    refine lv_iload_n hx hb dX5_next_40 rfl (lv_at hl 0 rfl) ?_
    refine lv_iconst (v := (nI 1)) hx hb dX5_next_41 (by decide) ?_
    refine n_icmp_ne (tgt := 49) hx hb (by omega) (by omega) dX5_next_42 (by decide) (fun c42 => ?_) (fun c42 => ?_)
    · refine lv_iload_n hx hb dX5_next_49 rfl (lv_at hl 0 rfl) ?_
      refine n_if_ne (tgt := 57) hx hb (by omega) dX5_next_50 (by decide) (fun c50 => ?_) (fun c50 => ?_)
      · refine lv_iconst (v := (nI 1)) hx hb dX5_next_57 (by decide) ?_
        refine lv_goto (tgt := 120) hx hb dX5_next_58 (by decide) ?_
        rw [hQ]
        exact r_i (r := (nI 1)) (u := ()) hx hb hr (by first | (rw [show q = 5 by omega]; rfl) | (unfold gNI gNext; first | (subst z5_0; simp_all; done) | (subst z5_1; simp_all; done) | (subst z5_2; simp_all; done) | (subst z5_3; simp_all; done) | (subst z5_4; simp_all; done))) hSep hS (by first | exact Nat.le_of_ble_eq_true rfl | omega | (dsimp only; omega)) (by first | exact Nat.le_of_ble_eq_true rfl | omega | (dsimp only; omega)) dX5_next_120 hlocks
      · refine lv_iconst (v := (nI 2)) hx hb dX5_next_53 (by decide) ?_
        refine lv_goto (tgt := 120) hx hb dX5_next_54 (by decide) ?_
        rw [hQ]
        exact r_i (r := (nI 2)) (u := ()) hx hb hr (by first | (rw [show q = 5 by omega]; rfl) | (unfold gNI gNext; first | (subst z5_0; simp_all; done) | (subst z5_1; simp_all; done) | (subst z5_2; simp_all; done) | (subst z5_3; simp_all; done) | (subst z5_4; simp_all; done))) hSep hS (by first | exact Nat.le_of_ble_eq_true rfl | omega | (dsimp only; omega)) (by first | exact Nat.le_of_ble_eq_true rfl | omega | (dsimp only; omega)) dX5_next_120 hlocks
    · refine lv_iconst (v := (-1)) hx hb dX5_next_45 (by decide) ?_
      refine lv_goto (tgt := 120) hx hb dX5_next_46 (by decide) ?_
      rw [hQ]
      exact r_i (r := (-1)) (u := ()) hx hb hr (by first | (rw [show q = 5 by omega]; rfl) | (unfold gNI gNext; first | (subst z5_0; simp_all; done) | (subst z5_1; simp_all; done) | (subst z5_2; simp_all; done) | (subst z5_3; simp_all; done) | (subst z5_4; simp_all; done))) hSep hS (by first | exact Nat.le_of_ble_eq_true rfl | omega | (dsimp only; omega)) (by first | exact Nat.le_of_ble_eq_true rfl | omega | (dsimp only; omega)) dX5_next_120 hlocks
  by_cases z5_1 : q = 1
  · refine lv_tableIn (off := 56) (tgt := 61) hx hb dX5_next_5 (by rw [z5_1]; decide) (by rw [z5_1]; decide) (by rw [z5_1]; decide) (by decide) ?_
    refine lv_iload_n hx hb dX5_next_61 rfl (lv_at hl 0 rfl) ?_
    refine n_if_ne (tgt := 69) hx hb (by omega) dX5_next_62 (by decide) (fun c62 => ?_) (fun c62 => ?_)
    · refine lv_iconst (v := (-1)) hx hb dX5_next_69 (by decide) ?_
      refine lv_goto (tgt := 120) hx hb dX5_next_70 (by decide) ?_
      rw [hQ]
      exact r_i (r := (-1)) (u := ()) hx hb hr (by first | (rw [show q = 5 by omega]; rfl) | (unfold gNI gNext; first | (subst z5_0; simp_all; done) | (subst z5_1; simp_all; done) | (subst z5_2; simp_all; done) | (subst z5_3; simp_all; done) | (subst z5_4; simp_all; done))) hSep hS (by first | exact Nat.le_of_ble_eq_true rfl | omega | (dsimp only; omega)) (by first | exact Nat.le_of_ble_eq_true rfl | omega | (dsimp only; omega)) dX5_next_120 hlocks
    · refine lv_iconst (v := (nI 2)) hx hb dX5_next_65 (by decide) ?_
      refine lv_goto (tgt := 120) hx hb dX5_next_66 (by decide) ?_
      rw [hQ]
      exact r_i (r := (nI 2)) (u := ()) hx hb hr (by first | (rw [show q = 5 by omega]; rfl) | (unfold gNI gNext; first | (subst z5_0; simp_all; done) | (subst z5_1; simp_all; done) | (subst z5_2; simp_all; done) | (subst z5_3; simp_all; done) | (subst z5_4; simp_all; done))) hSep hS (by first | exact Nat.le_of_ble_eq_true rfl | omega | (dsimp only; omega)) (by first | exact Nat.le_of_ble_eq_true rfl | omega | (dsimp only; omega)) dX5_next_120 hlocks
  by_cases z5_2 : q = 2
  · refine lv_tableIn (off := 68) (tgt := 73) hx hb dX5_next_5 (by rw [z5_2]; decide) (by rw [z5_2]; decide) (by rw [z5_2]; decide) (by decide) ?_
    refine lv_iload_n hx hb dX5_next_73 rfl (lv_at hl 0 rfl) ?_
    refine lv_iconst (v := (nI 1)) hx hb dX5_next_74 (by decide) ?_
    refine n_icmp_ne (tgt := 82) hx hb (by omega) (by omega) dX5_next_75 (by decide) (fun c75 => ?_) (fun c75 => ?_)
    · refine lv_iconst (v := (-1)) hx hb dX5_next_82 (by decide) ?_
      refine lv_goto (tgt := 120) hx hb dX5_next_83 (by decide) ?_
      rw [hQ]
      exact r_i (r := (-1)) (u := ()) hx hb hr (by first | (rw [show q = 5 by omega]; rfl) | (unfold gNI gNext; first | (subst z5_0; simp_all; done) | (subst z5_1; simp_all; done) | (subst z5_2; simp_all; done) | (subst z5_3; simp_all; done) | (subst z5_4; simp_all; done))) hSep hS (by first | exact Nat.le_of_ble_eq_true rfl | omega | (dsimp only; omega)) (by first | exact Nat.le_of_ble_eq_true rfl | omega | (dsimp only; omega)) dX5_next_120 hlocks
    · refine lv_iconst (v := (nI 3)) hx hb dX5_next_78 (by decide) ?_
      refine lv_goto (tgt := 120) hx hb dX5_next_79 (by decide) ?_
      rw [hQ]
      exact r_i (r := (nI 3)) (u := ()) hx hb hr (by first | (rw [show q = 5 by omega]; rfl) | (unfold gNI gNext; first | (subst z5_0; simp_all; done) | (subst z5_1; simp_all; done) | (subst z5_2; simp_all; done) | (subst z5_3; simp_all; done) | (subst z5_4; simp_all; done))) hSep hS (by first | exact Nat.le_of_ble_eq_true rfl | omega | (dsimp only; omega)) (by first | exact Nat.le_of_ble_eq_true rfl | omega | (dsimp only; omega)) dX5_next_120 hlocks
  by_cases z5_3 : q = 3
  · refine lv_tableIn (off := 81) (tgt := 86) hx hb dX5_next_5 (by rw [z5_3]; decide) (by rw [z5_3]; decide) (by rw [z5_3]; decide) (by decide) ?_
    refine lv_iload_n hx hb dX5_next_86 rfl (lv_at hl 0 rfl) ?_
    refine lv_iconst (v := (nI 1)) hx hb dX5_next_87 (by decide) ?_
    refine n_icmp_ne (tgt := 95) hx hb (by omega) (by omega) dX5_next_88 (by decide) (fun c88 => ?_) (fun c88 => ?_)
    · refine lv_iload_n hx hb dX5_next_95 rfl (lv_at hl 0 rfl) ?_
      refine n_if_ne (tgt := 103) hx hb (by omega) dX5_next_96 (by decide) (fun c96 => ?_) (fun c96 => ?_)
      · refine lv_iconst (v := (nI 4)) hx hb dX5_next_103 (by decide) ?_
        refine lv_goto (tgt := 120) hx hb dX5_next_104 (by decide) ?_
        rw [hQ]
        exact r_i (r := (nI 4)) (u := ()) hx hb hr (by first | (rw [show q = 5 by omega]; rfl) | (unfold gNI gNext; first | (subst z5_0; simp_all; done) | (subst z5_1; simp_all; done) | (subst z5_2; simp_all; done) | (subst z5_3; simp_all; done) | (subst z5_4; simp_all; done))) hSep hS (by first | exact Nat.le_of_ble_eq_true rfl | omega | (dsimp only; omega)) (by first | exact Nat.le_of_ble_eq_true rfl | omega | (dsimp only; omega)) dX5_next_120 hlocks
      · refine lv_iconst (v := (nI 5)) hx hb dX5_next_99 (by decide) ?_
        refine lv_goto (tgt := 120) hx hb dX5_next_100 (by decide) ?_
        rw [hQ]
        exact r_i (r := (nI 5)) (u := ()) hx hb hr (by first | (rw [show q = 5 by omega]; rfl) | (unfold gNI gNext; first | (subst z5_0; simp_all; done) | (subst z5_1; simp_all; done) | (subst z5_2; simp_all; done) | (subst z5_3; simp_all; done) | (subst z5_4; simp_all; done))) hSep hS (by first | exact Nat.le_of_ble_eq_true rfl | omega | (dsimp only; omega)) (by first | exact Nat.le_of_ble_eq_true rfl | omega | (dsimp only; omega)) dX5_next_120 hlocks
    · refine lv_iconst (v := (-1)) hx hb dX5_next_91 (by decide) ?_
      refine lv_goto (tgt := 120) hx hb dX5_next_92 (by decide) ?_
      rw [hQ]
      exact r_i (r := (-1)) (u := ()) hx hb hr (by first | (rw [show q = 5 by omega]; rfl) | (unfold gNI gNext; first | (subst z5_0; simp_all; done) | (subst z5_1; simp_all; done) | (subst z5_2; simp_all; done) | (subst z5_3; simp_all; done) | (subst z5_4; simp_all; done))) hSep hS (by first | exact Nat.le_of_ble_eq_true rfl | omega | (dsimp only; omega)) (by first | exact Nat.le_of_ble_eq_true rfl | omega | (dsimp only; omega)) dX5_next_120 hlocks
  by_cases z5_4 : q = 4
  · refine lv_tableIn (off := 102) (tgt := 107) hx hb dX5_next_5 (by rw [z5_4]; decide) (by rw [z5_4]; decide) (by rw [z5_4]; decide) (by decide) ?_
    refine lv_iload_n hx hb dX5_next_107 rfl (lv_at hl 0 rfl) ?_
    refine n_if_ne (tgt := 115) hx hb (by omega) dX5_next_108 (by decide) (fun c108 => ?_) (fun c108 => ?_)
    · refine lv_iconst (v := (-1)) hx hb dX5_next_115 (by decide) ?_
      refine lv_goto (tgt := 120) hx hb dX5_next_116 (by decide) ?_
      rw [hQ]
      exact r_i (r := (-1)) (u := ()) hx hb hr (by first | (rw [show q = 5 by omega]; rfl) | (unfold gNI gNext; first | (subst z5_0; simp_all; done) | (subst z5_1; simp_all; done) | (subst z5_2; simp_all; done) | (subst z5_3; simp_all; done) | (subst z5_4; simp_all; done))) hSep hS (by first | exact Nat.le_of_ble_eq_true rfl | omega | (dsimp only; omega)) (by first | exact Nat.le_of_ble_eq_true rfl | omega | (dsimp only; omega)) dX5_next_120 hlocks
    · refine lv_iconst (v := (nI 5)) hx hb dX5_next_111 (by decide) ?_
      refine lv_goto (tgt := 120) hx hb dX5_next_112 (by decide) ?_
      rw [hQ]
      exact r_i (r := (nI 5)) (u := ()) hx hb hr (by first | (rw [show q = 5 by omega]; rfl) | (unfold gNI gNext; first | (subst z5_0; simp_all; done) | (subst z5_1; simp_all; done) | (subst z5_2; simp_all; done) | (subst z5_3; simp_all; done) | (subst z5_4; simp_all; done))) hSep hS (by first | exact Nat.le_of_ble_eq_true rfl | omega | (dsimp only; omega)) (by first | exact Nat.le_of_ble_eq_true rfl | omega | (dsimp only; omega)) dX5_next_120 hlocks
  refine lv_tableOut (tgt := 119) hx hb dX5_next_5 (by rw [nI_toInt (by omega)]; omega) (by decide) ?_
  refine lv_iconst (v := (-1)) hx hb dX5_next_119 (by decide) ?_
  rw [hQ]
  exact r_i (r := (-1)) (u := ()) hx hb hr (by first | (rw [show q = 5 by omega]; rfl) | (unfold gNI gNext; first | (subst z5_0; simp_all; done) | (subst z5_1; simp_all; done) | (subst z5_2; simp_all; done) | (subst z5_3; simp_all; done) | (subst z5_4; simp_all; done))) hSep hS (by first | exact Nat.le_of_ble_eq_true rfl | omega | (dsimp only; omega)) (by first | exact Nat.le_of_ble_eq_true rfl | omega | (dsimp only; omega)) dX5_next_120 hlocks

set_option maxHeartbeats 600000 in
set_option maxRecDepth 100000 in
theorem m_X5_isEnd (l : Launch) (G : EVT) (sz : Nat) (q : Nat) (hq : q ≤ 6) : Met l yX5_isEnd (ws_ yX5_isEnd cX5_isEnd 1 (some .boolean)) ({ frames := 0, cells := 0, slots := 0, locals := 0 } : Room) (SPc G (fun _ => False) sz [.int (nI q)] [] (fun _ => True)) (SQi G (fun _ => False) sz (fun (r : Int32) (u : Unit) => r = (bI (decide (q = 3 ∨ q = 5)))) (fun (u : Unit) => [])) (0) (0) (Fz (fun _ => False) sz) := by
  refine sp_of RX5 (by decide) rfl (Nat.le_of_ble_eq_true rfl) ?_
  intro p e s m args below meth c ls QQ hx hb hr hts hown hlocks hml hnm hsz hSep hΦ hE hS hl hQ
  subst hsz
  have hK := hE.1
  have hl : lv_has ls 1 [(0, .int (nI q))] := hl
  refine lv_iload_n hx hb dX5_isEnd_0 rfl (lv_at hl 0 rfl) ?_
  refine lv_iconst (v := (nI 3)) hx hb dX5_isEnd_1 (by decide) ?_
  refine n_icmp_eq (tgt := 10) hx hb (by omega) (by omega) dX5_isEnd_2 (by decide) (fun c2 => ?_) (fun c2 => ?_)
  · refine lv_iconst (v := (nI 1)) hx hb dX5_isEnd_10 (by decide) ?_
    refine lv_goto (tgt := 15) hx hb dX5_isEnd_11 (by decide) ?_
    rw [hQ]
    exact r_z (r := (nI 1)) (u := ()) hx hb hr (by decide) (by first | exact (bI_dt (Or.inl c2)).symm | exact (bI_dt (Or.inr c7)).symm | exact (bI_df (fun h => h.elim c2 c7)).symm) hSep hS (by first | exact Nat.le_of_ble_eq_true rfl | omega | (dsimp only; omega)) (by first | exact Nat.le_of_ble_eq_true rfl | omega | (dsimp only; omega)) dX5_isEnd_15 hlocks
  · refine lv_iload_n hx hb dX5_isEnd_5 rfl (lv_at hl 0 rfl) ?_
    refine lv_iconst (v := (nI 5)) hx hb dX5_isEnd_6 (by decide) ?_
    refine n_icmp_ne (tgt := 14) hx hb (by omega) (by omega) dX5_isEnd_7 (by decide) (fun c7 => ?_) (fun c7 => ?_)
    · refine lv_iconst (v := (nI 0)) hx hb dX5_isEnd_14 (by decide) ?_
      rw [hQ]
      exact r_z (r := (nI 0)) (u := ()) hx hb hr (by decide) (by first | exact (bI_dt (Or.inl c2)).symm | exact (bI_dt (Or.inr c7)).symm | exact (bI_df (fun h => h.elim c2 c7)).symm) hSep hS (by first | exact Nat.le_of_ble_eq_true rfl | omega | (dsimp only; omega)) (by first | exact Nat.le_of_ble_eq_true rfl | omega | (dsimp only; omega)) dX5_isEnd_15 hlocks
    · refine lv_iconst (v := (nI 1)) hx hb dX5_isEnd_10 (by decide) ?_
      refine lv_goto (tgt := 15) hx hb dX5_isEnd_11 (by decide) ?_
      rw [hQ]
      exact r_z (r := (nI 1)) (u := ()) hx hb hr (by decide) (by first | exact (bI_dt (Or.inl c2)).symm | exact (bI_dt (Or.inr c7)).symm | exact (bI_df (fun h => h.elim c2 c7)).symm) hSep hS (by first | exact Nat.le_of_ble_eq_true rfl | omega | (dsimp only; omega)) (by first | exact Nat.le_of_ble_eq_true rfl | omega | (dsimp only; omega)) dX5_isEnd_15 hlocks
