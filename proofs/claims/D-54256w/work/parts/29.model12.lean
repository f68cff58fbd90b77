set_option maxRecDepth 100000
set_option maxHeartbeats 600000 in
set_option maxRecDepth 100000 in
theorem m_X4_thrown (l : Launch) (G : EVT) (F : Nat → Prop) (sz : Nat) (mo : Nat) (rf : Int32) (σ : MS)  : Met l yX4_thrown (ws_ yX4_thrown cX4_thrown 1 (some .int)) ({ frames := 0, cells := 0, slots := 0, locals := 0 } : Room) (SPc G F sz [.ref mo] [modA G mo rf σ] (fun _ => True)) (SQi G F sz (fun (r : Int32) (u : Unit) => r = rf) (fun (u : Unit) => [modA G mo rf σ])) (0) (0) (Fz F sz) := by
  refine sp_of RX4 (by decide) rfl (Nat.le_of_ble_eq_true rfl) ?_
  intro p e s m args below meth c ls QQ hx hb hr hts hown hlocks hml hnm hsz hSep hΦ hE hS hl hQ
  subst hsz
  have hK := hE.1
  have hl : lv_has ls 1 [(0, .ref mo)] := hl
  obtain ⟨g, hs, kp, T⟩ := σ
  obtain ⟨aT, aN, aL, aP, aD, aK, aZ, aG, aB, aS, bl, bp, tl, fT, fN, fL, fP, fD, fK, fZ, fG, fB, fS, hC, hSep⟩ := mod_unpk hSep
  have hg : gV g := hC.1.1
  have ho : gOk g := hC.1.1.1
  have he : Enc fN g := hC.1.2
  have hT : Pre fT T := hC.2.2.2.1
  have hT20 : T.length ≤ 20 := hC.2.2.2.2.1
  have hT256 : ∀ w ∈ T, w < 256 := hC.2.2.2.2.2
  have hD14 : hs.length ≤ 14 := hC.2.1.1
  refine lv_aload_n hx hb dX4_thrown_0 rfl (lv_at hl 0 rfl) ?_
  refine va_get (D := G.1) (ci := 3) (v := .int rf) (C := RX4) (T := TX4) (N := 16) hx hb hts in_X4 hown hK (hSep.cel (k := 0) rfl) 0 rfl rfl 0 (by decide) (hts _ q1473) (fun _ h9 => h9) rfl dX4_thrown_1 ?_
  rw [hQ]
  exact r_i (r := rf) (u := ()) hx hb hr (rfl) (mod_close (hSep.pick [0, 1, 2, 3, 4, 5, 6, 7, 8, 9, 10] rfl rfl) rfl rfl rfl hC) hS (by first | exact Nat.le_of_ble_eq_true rfl | omega | (dsimp only; omega)) (by first | exact Nat.le_of_ble_eq_true rfl | omega | (dsimp only; omega)) dX4_thrown_4 hlocks

set_option maxHeartbeats 600000 in
set_option maxRecDepth 100000 in
theorem m_X4_append (l : Launch) (G : EVT) (F : Nat → Prop) (sz : Nat) (mo : Nat) (rf : Int32) (σ : MS) (x : Int32)  : Met l yX4_append (ws_ yX4_append cX4_append 2 (some .int)) ({ frames := 1, cells := 0, slots := 0, locals := 25 } : Room) (SPc G F sz [.ref mo, .int x] [modA G mo rf σ] (fun _ => True)) (SQi G F sz (fun (r : Int32) (u : Unit) => (oAppend σ x).1 = 0 → r = (oAppend σ x).2.1) (fun (u : Unit) => [modA G mo (nI (oAppend σ x).1) (oAppend σ x).2.2])) (0) (0) (Fz F sz) := by
  refine sp_of RX4 (by decide) rfl (Nat.le_of_ble_eq_true rfl) ?_
  intro p e s m args below meth c ls QQ hx hb hr hts hown hlocks hml hnm hsz hSep hΦ hE hS hl hQ
  subst hsz
  have hK := hE.1
  have hl : lv_has ls 2 [(0, .ref mo), (1, .int x)] := hl
  obtain ⟨g, hs, kp, T⟩ := σ
  obtain ⟨aT, aN, aL, aP, aD, aK, aZ, aG, aB, aS, bl, bp, tl, fT, fN, fL, fP, fD, fK, fZ, fG, fB, fS, hC, hSep⟩ := mod_unpk hSep
  have hg : gV g := hC.1.1
  have ho : gOk g := hC.1.1.1
  have he : Enc fN g := hC.1.2
  have hT : Pre fT T := hC.2.2.2.1
  have hT20 : T.length ≤ 20 := hC.2.2.2.2.1
  have hT256 : ∀ w ∈ T, w < 256 := hC.2.2.2.2.2
  have hD14 : hs.length ≤ 14 := hC.2.1.1
  have L31 : ∀ (x9 : Nat) , ((x9 ≠ 0 ∧ oAppend (g, hs, kp, T) x = (x9, 0, (g, hs, kp, T))) ∨ (x9 = 0 ∧ inR x.toInt 0 255 = true ∧ T.length ≠ 20)) → (x9 < 3) → ∀ (H : Heap) (locs : List Loc) (ls : Array Slot), Sep G.1 clA (Fz F s.heap.size) [pts mo (.inr (3, [.int rf, .ref aT, .int (nI T.length), .ref aN, .ref aL, .ref aP, .ref aD, .int (nI hs.length), .ref aK, .ref aZ, .ref aG, .ref aB, .int (nI bl), .int bp, .ref aS, .int (nI tl)])), pts aT (.inl (G.2.1 0, 20, .inl fT)), pts aN (.inl (G.2.1 0, 89, .inl fN)), pts aL (.inl (G.2.1 0, 89, .inl fL)), pts aP (.inl (G.2.1 0, 89, .inl fP)), pts aD (.inl (G.2.1 0, 1246, .inl fD)), pts aK (.inl (G.2.1 0, 178, .inl fK)), pts aZ (.inl (G.2.1 2, 2, .inl fZ)), pts aG (.inl (G.2.1 0, 18, .inl fG)), pts aB (.inl (G.2.1 0, 5, .inl fB)), pts aS (.inl (G.2.1 0, 5, .inl fS))] H → va_S (Fz F s.heap.size) s.heap H locs → lv_has ls 2 [(0, .ref mo), (1, .int x)] → W p l e ({ frames := 1, cells := 0, slots := 0, locals := 25 } : Room) s m args below meth c H locs (0) (0) QQ (F0 m 31 ls [.int (nI x9), .ref mo]) := by
    intro x9 hrf hx9 H locs ls hSep hS hl
    obtain ⟨Fk_1, hFk_1, hPk_1, hJk_1⟩ := hSep.cut (Pc := [pts mo (.inr (3, [.int rf, .ref aT, .int (nI T.length), .ref aN, .ref aL, .ref aP, .ref aD, .int (nI hs.length), .ref aK, .ref aZ, .ref aG, .ref aB, .int (nI bl), .int bp, .ref aS, .int (nI tl)]))]) (Pr := [pts aT (.inl (G.2.1 0, 20, .inl fT)), pts aN (.inl (G.2.1 0, 89, .inl fN)), pts aL (.inl (G.2.1 0, 89, .inl fL)), pts aP (.inl (G.2.1 0, 89, .inl fP)), pts aD (.inl (G.2.1 0, 1246, .inl fD)), pts aK (.inl (G.2.1 0, 178, .inl fK)), pts aZ (.inl (G.2.1 2, 2, .inl fZ)), pts aG (.inl (G.2.1 0, 18, .inl fG)), pts aB (.inl (G.2.1 0, 5, .inl fB)), pts aS (.inl (G.2.1 0, 5, .inl fS))]) (fun q h => Fz.new (Nat.le_trans hS.1 h)) [0] [1, 2, 3, 4, 5, 6, 7, 8, 9, 10] rfl rfl rfl rfl (by decide)
    refine c_i (va_runV (As := [.int (nI x9)]) (rest := []) ⟨hx, hb, hml, hown, hts⟩ (m_X4_refused l G Fk_1 H.size mo rf aT T.length aN aL aP aD hs.length aK aZ aG aB bl bp aS tl x9 (by omega)) (cwV 1 hts (lw_V q1535 q1537 qs21 q44 q1538) rfl rfl rfl (by decide +kernel) ⟨Nat.le_of_ble_eq_true rfl, Nat.le_of_ble_eq_true rfl⟩) (sp_preV hE hS hFk_1 hPk_1 trivial (sp_recv (ci := 3) hK (hSep.cel (k := 0) rfl) rfl)) rfl rfl hl.1 rfl (lv_room (Nat.le_of_ble_eq_true rfl)) dX4_append_31 ⟨by first | exact Nat.le_of_ble_eq_true rfl | omega | (dsimp only; omega), by first | exact Nat.le_of_ble_eq_true rfl | omega | (dsimp only; omega)⟩) hS hFk_1 hJk_1 (fun r_2 u_3 H locs hpk_1 hSep hS hzk_1 => ?_)
    obtain rfl : r_2 = (bI (decide (0 < x9))) := hpk_1
    refine W.cs (cells' := 0) (slots' := 0) rfl rfl ?_
    have hSep : Sep G.1 clA (Fz F s.heap.size) [pts aT (.inl (G.2.1 0, 20, .inl fT)), pts aN (.inl (G.2.1 0, 89, .inl fN)), pts aL (.inl (G.2.1 0, 89, .inl fL)), pts aP (.inl (G.2.1 0, 89, .inl fP)), pts aD (.inl (G.2.1 0, 1246, .inl fD)), pts aK (.inl (G.2.1 0, 178, .inl fK)), pts aZ (.inl (G.2.1 2, 2, .inl fZ)), pts aG (.inl (G.2.1 0, 18, .inl fG)), pts aB (.inl (G.2.1 0, 5, .inl fB)), pts aS (.inl (G.2.1 0, 5, .inl fS)), pts mo (.inr (3, [.int (nI x9), .ref aT, .int (nI T.length), .ref aN, .ref aL, .ref aP, .ref aD, .int (nI hs.length), .ref aK, .ref aZ, .ref aG, .ref aB, .int (nI bl), .int bp, .ref aS, .int (nI tl)]))] H := hSep
    refine b_if_eq (tgt := 39) hx hb dX4_append_34 (by decide) (fun c34 => ?_) (fun c34 => ?_)
    · obtain ⟨hx0, hgd⟩ := hrf.resolve_left (fun h => h.1 (by have := of_decide_eq_false c34; omega))
      subst hx0
      obtain ⟨n9, hn1, hn2, rfl⟩ := inR_n (n := 255) hgd.1
      have hz9 : T.length < 20 := by have := hgd.2; omega
      refine lv_aload_n hx hb dX4_append_39 rfl (lv_at hl 0 rfl) ?_
      refine va_get (D := G.1) (ci := 3) (v := .ref aT) (C := RX4) (T := TX4) (N := 16) hx hb hts in_X4 hown hK (hSep.cel (k := 10) rfl) 0 rfl rfl 1 (by decide) (hts _ q1474) (fun _ h9 => h9) rfl dX4_append_40 ?_
      refine lv_aload_n hx hb dX4_append_43 rfl (lv_at hl 0 rfl) ?_
      refine va_get (D := G.1) (ci := 3) (v := .int (nI T.length)) (C := RX4) (T := TX4) (N := 16) hx hb hts in_X4 hown hK (hSep.cel (k := 10) rfl) 0 rfl rfl 2 (by decide) (hts _ q1475) (fun _ h9 => h9) rfl dX4_append_44 ?_
      refine lv_iload_n hx hb dX4_append_47 rfl (lv_at hl 1 rfl) ?_
      refine n_iast (i := T.length) (x := (nI n9)) (y := (nI n9)) hx hb hK hSep hS 0 rfl 0 rfl (by omega) (by omega) (rfl) dX4_append_48 (fun H locs hSep hS => ?_)
      have hSep : Sep G.1 clA (Fz F s.heap.size) [pts aT (.inl (G.2.1 0, 20, .inl (upd fT T.length (nI n9)))), pts aN (.inl (G.2.1 0, 89, .inl fN)), pts aL (.inl (G.2.1 0, 89, .inl fL)), pts aP (.inl (G.2.1 0, 89, .inl fP)), pts aD (.inl (G.2.1 0, 1246, .inl fD)), pts aK (.inl (G.2.1 0, 178, .inl fK)), pts aZ (.inl (G.2.1 2, 2, .inl fZ)), pts aG (.inl (G.2.1 0, 18, .inl fG)), pts aB (.inl (G.2.1 0, 5, .inl fB)), pts aS (.inl (G.2.1 0, 5, .inl fS)), pts mo (.inr (3, [.int (nI 0), .ref aT, .int (nI T.length), .ref aN, .ref aL, .ref aP, .ref aD, .int (nI hs.length), .ref aK, .ref aZ, .ref aG, .ref aB, .int (nI bl), .int bp, .ref aS, .int (nI tl)]))] H := hSep
      refine lv_aload_n hx hb dX4_append_49 rfl (lv_at hl 0 rfl) ?_
      refine lv_dup hx hb dX4_append_50 rfl ?_
      refine va_get (D := G.1) (ci := 3) (v := .int (nI T.length)) (C := RX4) (T := TX4) (N := 16) hx hb hts in_X4 hown hK (hSep.cel (k := 10) rfl) 0 rfl rfl 2 (by decide) (hts _ q1475) (fun _ h9 => h9) rfl dX4_append_51 ?_
      refine lv_iconst (v := (nI 1)) hx hb dX4_append_54 (by decide) ?_
      refine n_iadd hx hb dX4_append_55 ?_
      refine s_put (ci := 3) (v := .int (nI (T.length + 1))) (ty := .int) (C := RX4) (T := TX4) (N := 16) hx hb hts in_X4 tyX4 tyX4_ok nmX4 hown hK hSep hS 10 rfl rfl 2 (by decide) (hts _ q1475) (fun _ h9 => h9) rfl (by decide +kernel) rfl rfl (Nat.le_of_ble_eq_true rfl) dX4_append_56 (fun H locs hSep hS => ?_)
      have hSep : Sep G.1 clA (Fz F s.heap.size) [pts aT (.inl (G.2.1 0, 20, .inl (upd fT T.length (nI n9)))), pts aN (.inl (G.2.1 0, 89, .inl fN)), pts aL (.inl (G.2.1 0, 89, .inl fL)), pts aP (.inl (G.2.1 0, 89, .inl fP)), pts aD (.inl (G.2.1 0, 1246, .inl fD)), pts aK (.inl (G.2.1 0, 178, .inl fK)), pts aZ (.inl (G.2.1 2, 2, .inl fZ)), pts aG (.inl (G.2.1 0, 18, .inl fG)), pts aB (.inl (G.2.1 0, 5, .inl fB)), pts aS (.inl (G.2.1 0, 5, .inl fS)), pts mo (.inr (3, [.int (nI 0), .ref aT, .int (nI (T.length + 1)), .ref aN, .ref aL, .ref aP, .ref aD, .int (nI hs.length), .ref aK, .ref aZ, .ref aG, .ref aB, .int (nI bl), .int bp, .ref aS, .int (nI tl)]))] H := hSep
      refine lv_aload_n hx hb dX4_append_59 rfl (lv_at hl 0 rfl) ?_
      refine va_get (D := G.1) (ci := 3) (v := .int (nI (T.length + 1))) (C := RX4) (T := TX4) (N := 16) hx hb hts in_X4 hown hK (hSep.cel (k := 10) rfl) 0 rfl rfl 2 (by decide) (hts _ q1475) (fun _ h9 => h9) rfl dX4_append_60 ?_
      have hop : oAppend (g, hs, kp, T) (nI n9) = (0, nI (T.length + 1), g, hs, kp, T ++ [n9]) := by unfold oAppend; rw [if_neg (by rw [hgd.1]; decide), if_neg hgd.2, nI_toInt hn2, Int.toNat_natCast]
      have e9 : T.length + 1 = (T ++ [n9]).length := by simp
      rw [hQ]
      exact r_i (r := (nI (T.length + 1))) (u := ()) hx hb hr (by rw [hop]; exact fun _ => rfl) (by rw [hop]; exact mod_close (hSep.pick [10, 0, 1, 2, 3, 4, 5, 6, 7, 8, 9] rfl rfl) rfl e9 rfl (⟨hC.1, hC.2.1, hC.2.2.1, hT.push rfl, by simp; omega, fun w hw => by rcases List.mem_append.mp hw with z | z; exact hT256 w z; rw [List.mem_singleton.mp z]; omega⟩)) hS (by first | exact Nat.le_of_ble_eq_true rfl | omega | (dsimp only; omega)) (by first | exact Nat.le_of_ble_eq_true rfl | omega | (dsimp only; omega)) dX4_append_63 hlocks
    · obtain ⟨hx1, hop⟩ := hrf.resolve_right (fun h => absurd (of_decide_eq_true c34) (by rw [h.1]; decide))
      refine lv_iconst (v := (nI 0)) hx hb dX4_append_37 (by decide) ?_
      rw [hQ]
      exact r_i (r := (nI 0)) (u := ()) hx hb hr (by rw [hop]; exact fun h => absurd h hx1) (by rw [hop]; exact mod_close (hSep.pick [10, 0, 1, 2, 3, 4, 5, 6, 7, 8, 9] rfl rfl) rfl rfl rfl hC) hS (by first | exact Nat.le_of_ble_eq_true rfl | omega | (dsimp only; omega)) (by first | exact Nat.le_of_ble_eq_true rfl | omega | (dsimp only; omega)) dX4_append_38 hlocks
  refine lv_aload_n hx hb dX4_append_0 rfl (lv_at hl 0 rfl) ?_
  refine lv_iload_n hx hb dX4_append_1 rfl (lv_at hl 1 rfl) ?_
  refine lv_i2l hx hb dX4_append_2 rfl ?_
  refine lv_lconst (v := 0) hx hb dX4_append_3 (by decide) ?_
  refine lv_ldc2 (v := 255) hx hb hown (hts _ q1531) dX4_append_4 ?_
  have hFk_4 : ∀ q, Fz (fun _ => False) s.heap.size q → (Fz F s.heap.size) q := fun q h => by rcases h with h | h; exact h.elim; exact Fz.new (Nat.le_trans hS.1 h)
  have hPk_4 : Sep G.1 clA (Fz (fun _ => False) s.heap.size) [] s.heap := sp_nil
  have hJk_4 := sp_nilJ (F := (fun _ => False)) hSep (fun _ => id) hFk_4
  refine c_i (va_runS (As := [.long x.toInt64, .long (0 : Int64), .long (255 : Int64)]) (rest := [.ref mo]) ⟨hx, hb, hml, hown, hts⟩ (m_X4_in l G s.heap.size x.toInt64 (0 : Int64) (255 : Int64) ) (va_cwS 3 hts (lw_S q1532 q1533 q44 q1534) rfl rfl rfl (by decide +kernel) ⟨Nat.le_of_ble_eq_true rfl, Nat.le_of_ble_eq_true rfl⟩) (sp_preS hE hS hFk_4 hPk_4 trivial) rfl rfl hl.1 rfl (lv_room (Nat.le_of_ble_eq_true rfl)) dX4_append_7 ⟨by first | exact Nat.le_of_ble_eq_true rfl | omega | (dsimp only; omega), by first | exact Nat.le_of_ble_eq_true rfl | omega | (dsimp only; omega)⟩) hS hFk_4 hJk_4 (fun r_5 u_6 H locs hpk_4 hSep hS hzk_4 => ?_)
  obtain rfl : r_5 = (bI (inR x.toInt64.toInt (0 : Int64).toInt (255 : Int64).toInt)) := hpk_4
  refine W.cs (cells' := 0) (slots' := 0) rfl rfl ?_
  have hSep : Sep G.1 clA (Fz F s.heap.size) [pts mo (.inr (3, [.int rf, .ref aT, .int (nI T.length), .ref aN, .ref aL, .ref aP, .ref aD, .int (nI hs.length), .ref aK, .ref aZ, .ref aG, .ref aB, .int (nI bl), .int bp, .ref aS, .int (nI tl)])), pts aT (.inl (G.2.1 0, 20, .inl fT)), pts aN (.inl (G.2.1 0, 89, .inl fN)), pts aL (.inl (G.2.1 0, 89, .inl fL)), pts aP (.inl (G.2.1 0, 89, .inl fP)), pts aD (.inl (G.2.1 0, 1246, .inl fD)), pts aK (.inl (G.2.1 0, 178, .inl fK)), pts aZ (.inl (G.2.1 2, 2, .inl fZ)), pts aG (.inl (G.2.1 0, 18, .inl fG)), pts aB (.inl (G.2.1 0, 5, .inl fB)), pts aS (.inl (G.2.1 0, 5, .inl fS))] H := hSep
  refine n_eq (y := (bI (inR x.toInt 0 255))) (by rw [Int32.toInt_toInt64]; rfl) ?_
  refine b_if_ne (tgt := 17) hx hb dX4_append_10 (by decide) (fun c10 => ?_) (fun c10 => ?_)
  · refine lv_aload_n hx hb dX4_append_17 rfl (lv_at hl 0 rfl) ?_
    refine va_get (D := G.1) (ci := 3) (v := .int (nI T.length)) (C := RX4) (T := TX4) (N := 16) hx hb hts in_X4 hown hK (hSep.cel (k := 0) rfl) 0 rfl rfl 2 (by decide) (hts _ q1475) (fun _ h9 => h9) rfl dX4_append_18 ?_
    refine lv_bipush (v := (nI 20)) hx hb dX4_append_21 (by decide) ?_
    refine n_icmp_ne (tgt := 30) hx hb (by omega) (by omega) dX4_append_23 (by decide) (fun c23 => ?_) (fun c23 => ?_)
    · refine lv_iconst (v := (nI 0)) hx hb dX4_append_30 (by decide) ?_
      exact L31 0 (Or.inr ⟨rfl, ⟨c10, c23⟩⟩) (by decide) _ _ _ hSep hS (lv_sub hl [0, 1] rfl)
    · refine lv_iconst (v := (nI 2)) hx hb dX4_append_26 (by decide) ?_
      refine lv_goto (tgt := 31) hx hb dX4_append_27 (by decide) ?_
      exact L31 2 (Or.inl ⟨by decide, by unfold oAppend; rw [if_neg (by rw [c10]; decide), if_pos (show T.length = 20 from c23)]⟩) (by decide) _ _ _ hSep hS (lv_sub hl [0, 1] rfl)
  · refine lv_iconst (v := (nI 1)) hx hb dX4_append_13 (by decide) ?_
    refine lv_goto (tgt := 31) hx hb dX4_append_14 (by decide) ?_
    exact L31 1 (Or.inl ⟨by decide, by unfold oAppend; rw [if_pos c10]⟩) (by decide) _ _ _ hSep hS (lv_sub hl [0, 1] rfl)

set_option maxHeartbeats 600000 in
set_option maxRecDepth 100000 in
theorem m_X4_clearText (l : Launch) (G : EVT) (F : Nat → Prop) (sz : Nat) (mo : Nat) (rf : Int32) (σ : MS)  : Met l yX4_clearText (ws_ yX4_clearText cX4_clearText 2 (some .int)) ({ frames := 0, cells := 0, slots := 0, locals := 0 } : Room) (SPc G F sz [.ref mo] [modA G mo rf σ] (fun _ => True)) (SQi G F sz (fun (r : Int32) (u : Unit) => (oClear σ).1 = 0 → r = (oClear σ).2.1) (fun (u : Unit) => [modA G mo (nI (oClear σ).1) (oClear σ).2.2])) (0) (0) (Fz F sz) := by
  refine sp_of RX4 (by decide) rfl (Nat.le_of_ble_eq_true rfl) ?_
  intro p e s m args below meth c ls QQ hx hb hr hts hown hlocks hml hnm hsz hSep hΦ hE hS hl hQ
  subst hsz
  have hK := hE.1
  have hl : lv_has ls 2 [(0, .ref mo)] := hl
  obtain ⟨g, hs, kp, T⟩ := σ
  obtain ⟨aT, aN, aL, aP, aD, aK, aZ, aG, aB, aS, bl, bp, tl, fT, fN, fL, fP, fD, fK, fZ, fG, fB, fS, hC, hSep⟩ := mod_unpk hSep
  have hg : gV g := hC.1.1
  have ho : gOk g := hC.1.1.1
  have he : Enc fN g := hC.1.2
  have hT : Pre fT T := hC.2.2.2.1
  have hT20 : T.length ≤ 20 := hC.2.2.2.2.1
  have hT256 : ∀ w ∈ T, w < 256 := hC.2.2.2.2.2
  have hD14 : hs.length ≤ 14 := hC.2.1.1
  refine lv_aload_n hx hb dX4_clearText_0 rfl (lv_at hl 0 rfl) ?_
  refine lv_iconst (v := (nI 0)) hx hb dX4_clearText_1 (by decide) ?_
  refine s_put (ci := 3) (v := .int (nI 0)) (ty := .int) (C := RX4) (T := TX4) (N := 16) hx hb hts in_X4 tyX4 tyX4_ok nmX4 hown hK hSep hS 0 rfl rfl 0 (by decide) (hts _ q1473) (fun _ h9 => h9) rfl (by decide +kernel) rfl rfl (Nat.le_of_ble_eq_true rfl) dX4_clearText_2 (fun H locs hSep hS => ?_)
  have hSep : Sep G.1 clA (Fz F s.heap.size) [pts mo (.inr (3, [.int (nI 0), .ref aT, .int (nI T.length), .ref aN, .ref aL, .ref aP, .ref aD, .int (nI hs.length), .ref aK, .ref aZ, .ref aG, .ref aB, .int (nI bl), .int bp, .ref aS, .int (nI tl)])), pts aT (.inl (G.2.1 0, 20, .inl fT)), pts aN (.inl (G.2.1 0, 89, .inl fN)), pts aL (.inl (G.2.1 0, 89, .inl fL)), pts aP (.inl (G.2.1 0, 89, .inl fP)), pts aD (.inl (G.2.1 0, 1246, .inl fD)), pts aK (.inl (G.2.1 0, 178, .inl fK)), pts aZ (.inl (G.2.1 2, 2, .inl fZ)), pts aG (.inl (G.2.1 0, 18, .inl fG)), pts aB (.inl (G.2.1 0, 5, .inl fB)), pts aS (.inl (G.2.1 0, 5, .inl fS))] H := hSep
  refine lv_aload_n hx hb dX4_clearText_5 rfl (lv_at hl 0 rfl) ?_
  refine va_get (D := G.1) (ci := 3) (v := .int (nI T.length)) (C := RX4) (T := TX4) (N := 16) hx hb hts in_X4 hown hK (hSep.cel (k := 0) rfl) 0 rfl rfl 2 (by decide) (hts _ q1475) (fun _ h9 => h9) rfl dX4_clearText_6 ?_
  refine lv_istore_n (lv' := [(1, .int (nI T.length)), (0, .ref mo)]) hx hb dX4_clearText_9 rfl hl (by decide) rfl (fun ls hl => ?_)
  refine lv_aload_n hx hb dX4_clearText_10 rfl (lv_at hl 1 rfl) ?_
  refine lv_iconst (v := (nI 0)) hx hb dX4_clearText_11 (by decide) ?_
  refine s_put (ci := 3) (v := .int (nI 0)) (ty := .int) (C := RX4) (T := TX4) (N := 16) hx hb hts in_X4 tyX4 tyX4_ok nmX4 hown hK hSep hS 0 rfl rfl 2 (by decide) (hts _ q1475) (fun _ h9 => h9) rfl (by decide +kernel) rfl rfl (Nat.le_of_ble_eq_true rfl) dX4_clearText_12 (fun H locs hSep hS => ?_)
  have hSep : Sep G.1 clA (Fz F s.heap.size) [pts mo (.inr (3, [.int (nI 0), .ref aT, .int (nI 0), .ref aN, .ref aL, .ref aP, .ref aD, .int (nI hs.length), .ref aK, .ref aZ, .ref aG, .ref aB, .int (nI bl), .int bp, .ref aS, .int (nI tl)])), pts aT (.inl (G.2.1 0, 20, .inl fT)), pts aN (.inl (G.2.1 0, 89, .inl fN)), pts aL (.inl (G.2.1 0, 89, .inl fL)), pts aP (.inl (G.2.1 0, 89, .inl fP)), pts aD (.inl (G.2.1 0, 1246, .inl fD)), pts aK (.inl (G.2.1 0, 178, .inl fK)), pts aZ (.inl (G.2.1 2, 2, .inl fZ)), pts aG (.inl (G.2.1 0, 18, .inl fG)), pts aB (.inl (G.2.1 0, 5, .inl fB)), pts aS (.inl (G.2.1 0, 5, .inl fS))] H := hSep
  refine lv_iload_n hx hb dX4_clearText_15 rfl (lv_at hl 0 rfl) ?_
  have hop : oClear (g, hs, kp, T) = (0, nI T.length, g, hs, kp, []) := rfl
  rw [hQ]
  exact r_i (r := (nI T.length)) (u := ()) hx hb hr (by rw [hop]; exact fun _ => rfl) (by rw [hop]; exact mod_close (hSep.pick [0, 1, 2, 3, 4, 5, 6, 7, 8, 9, 10] rfl rfl) rfl rfl rfl (⟨hC.1, hC.2.1, hC.2.2.1, Pre.nil, by simp, by simp⟩)) hS (by first | exact Nat.le_of_ble_eq_true rfl | omega | (dsimp only; omega)) (by first | exact Nat.le_of_ble_eq_true rfl | omega | (dsimp only; omega)) dX4_clearText_16 hlocks

set_option maxHeartbeats 600000 in
set_option maxRecDepth 100000 in
theorem m_X4_errorPosition (l : Launch) (G : EVT) (F : Nat → Prop) (sz : Nat) (mo : Nat) (rf : Int32) (σ : MS)  : Met l yX4_errorPosition (ws_ yX4_errorPosition cX4_errorPosition 1 (some .int)) ({ frames := 3, cells := 0, slots := 0, locals := 86 } : Room) (SPc G F sz [.ref mo] [modA G mo rf σ] (fun _ => True)) (SQi G F sz (fun (r : Int32) (u : Unit) => (oErr σ).1 = 0 → r = (oErr σ).2.1) (fun (u : Unit) => [modA G mo (nI (oErr σ).1) (oErr σ).2.2])) (0) (0) (Fz F sz) := by
  refine sp_of RX4 (by decide) rfl (Nat.le_of_ble_eq_true rfl) ?_
  intro p e s m args below meth c ls QQ hx hb hr hts hown hlocks hml hnm hsz hSep hΦ hE hS hl hQ
  subst hsz
  have hK := hE.1
  have hl : lv_has ls 1 [(0, .ref mo)] := hl
  obtain ⟨g, hs, kp, T⟩ := σ
  obtain ⟨aT, aN, aL, aP, aD, aK, aZ, aG, aB, aS, bl, bp, tl, fT, fN, fL, fP, fD, fK, fZ, fG, fB, fS, hC, hSep⟩ := mod_unpk hSep
  have hg : gV g := hC.1.1
  have ho : gOk g := hC.1.1.1
  have he : Enc fN g := hC.1.2
  have hT : Pre fT T := hC.2.2.2.1
  have hT20 : T.length ≤ 20 := hC.2.2.2.2.1
  have hT256 : ∀ w ∈ T, w < 256 := hC.2.2.2.2.2
  have hD14 : hs.length ≤ 14 := hC.2.1.1
  refine lv_aload_n hx hb dX4_errorPosition_0 rfl (lv_at hl 0 rfl) ?_
  refine lv_iconst (v := (nI 0)) hx hb dX4_errorPosition_1 (by decide) ?_
  refine s_put (ci := 3) (v := .int (nI 0)) (ty := .int) (C := RX4) (T := TX4) (N := 16) hx hb hts in_X4 tyX4 tyX4_ok nmX4 hown hK hSep hS 0 rfl rfl 0 (by decide) (hts _ q1473) (fun _ h9 => h9) rfl (by decide +kernel) rfl rfl (Nat.le_of_ble_eq_true rfl) dX4_errorPosition_2 (fun H locs hSep hS => ?_)
  have hSep : Sep G.1 clA (Fz F s.heap.size) [pts mo (.inr (3, [.int (nI 0), .ref aT, .int (nI T.length), .ref aN, .ref aL, .ref aP, .ref aD, .int (nI hs.length), .ref aK, .ref aZ, .ref aG, .ref aB, .int (nI bl), .int bp, .ref aS, .int (nI tl)])), pts aT (.inl (G.2.1 0, 20, .inl fT)), pts aN (.inl (G.2.1 0, 89, .inl fN)), pts aL (.inl (G.2.1 0, 89, .inl fL)), pts aP (.inl (G.2.1 0, 89, .inl fP)), pts aD (.inl (G.2.1 0, 1246, .inl fD)), pts aK (.inl (G.2.1 0, 178, .inl fK)), pts aZ (.inl (G.2.1 2, 2, .inl fZ)), pts aG (.inl (G.2.1 0, 18, .inl fG)), pts aB (.inl (G.2.1 0, 5, .inl fB)), pts aS (.inl (G.2.1 0, 5, .inl fS))] H := hSep
  refine lv_aload_n hx hb dX4_errorPosition_5 rfl (lv_at hl 0 rfl) ?_
  obtain ⟨Fk_1, hFk_1, hPk_1, hJk_1⟩ := hSep.cut (Pc := [pts mo (.inr (3, [.int (nI 0), .ref aT, .int (nI T.length), .ref aN, .ref aL, .ref aP, .ref aD, .int (nI hs.length), .ref aK, .ref aZ, .ref aG, .ref aB, .int (nI bl), .int bp, .ref aS, .int (nI tl)])), pts aT (.inl (G.2.1 0, 20, .inl fT)), pts aS (.inl (G.2.1 0, 5, .inl fS))]) (Pr := [pts aN (.inl (G.2.1 0, 89, .inl fN)), pts aL (.inl (G.2.1 0, 89, .inl fL)), pts aP (.inl (G.2.1 0, 89, .inl fP)), pts aD (.inl (G.2.1 0, 1246, .inl fD)), pts aK (.inl (G.2.1 0, 178, .inl fK)), pts aZ (.inl (G.2.1 2, 2, .inl fZ)), pts aG (.inl (G.2.1 0, 18, .inl fG)), pts aB (.inl (G.2.1 0, 5, .inl fB))]) (fun q h => Fz.new (Nat.le_trans hS.1 h)) [0, 1, 10] [2, 3, 4, 5, 6, 7, 8, 9] rfl rfl rfl rfl (by decide)
  refine c_i (va_runV (As := []) (rest := []) ⟨hx, hb, hml, hown, hts⟩ (m_X4_readText l G Fk_1 H.size mo (nI 0) aT T.length aN aL aP aD hs.length aK aZ aG aB bl bp aS tl fT fS T (by first | assumption | omega) (by first | assumption | omega) (by first | assumption | omega) (by first | assumption | omega)) (cwV 0 hts (lw_V q1547 q1549 qs22 q44 q1550) rfl rfl rfl (by decide +kernel) ⟨Nat.le_of_ble_eq_true rfl, Nat.le_of_ble_eq_true rfl⟩) (sp_preV hE hS hFk_1 hPk_1 trivial (sp_recv (ci := 3) hK (hSep.cel (k := 0) rfl) rfl)) rfl rfl hl.1 rfl (lv_room (Nat.le_of_ble_eq_true rfl)) dX4_errorPosition_6 ⟨by first | exact Nat.le_of_ble_eq_true rfl | omega | (dsimp only; omega), by first | exact Nat.le_of_ble_eq_true rfl | omega | (dsimp only; omega)⟩) hS hFk_1 hJk_1 (fun r_2 u_3 H locs hpk_1 hSep hS hzk_1 => ?_)
  obtain ⟨fS4_4, tl4_5⟩ := u_3
  obtain ⟨rfl, hpk_1⟩ : r_2 = (errI T) ∧ (rd 0 [] T = none → Pre fS4_4 (tW T) ∧ tl4_5 = (tW T).length) := hpk_1
  refine W.cs (cells' := 0) (slots' := 0) rfl rfl ?_
  have hSep : Sep G.1 clA (Fz F s.heap.size) [pts aN (.inl (G.2.1 0, 89, .inl fN)), pts aL (.inl (G.2.1 0, 89, .inl fL)), pts aP (.inl (G.2.1 0, 89, .inl fP)), pts aD (.inl (G.2.1 0, 1246, .inl fD)), pts aK (.inl (G.2.1 0, 178, .inl fK)), pts aZ (.inl (G.2.1 2, 2, .inl fZ)), pts aG (.inl (G.2.1 0, 18, .inl fG)), pts aB (.inl (G.2.1 0, 5, .inl fB)), pts mo (.inr (3, [.int (nI 0), .ref aT, .int (nI T.length), .ref aN, .ref aL, .ref aP, .ref aD, .int (nI hs.length), .ref aK, .ref aZ, .ref aG, .ref aB, .int (nI bl), .int bp, .ref aS, .int (nI tl4_5)])), pts aT (.inl (G.2.1 0, 20, .inl fT)), pts aS (.inl (G.2.1 0, 5, .inl fS4_4))] H := hSep
  have hop : oErr (g, hs, kp, T) = (0, errI T, g, hs, kp, T) := rfl
  rw [hQ]
  exact r_i (r := (errI T)) (u := ()) hx hb hr (by rw [hop]; exact fun _ => rfl) (by rw [hop]; exact mod_close (hSep.pick [8, 9, 0, 1, 2, 3, 4, 5, 6, 7, 10] rfl rfl) rfl rfl rfl hC) hS (by first | exact Nat.le_of_ble_eq_true rfl | omega | (dsimp only; omega)) (by first | exact Nat.le_of_ble_eq_true rfl | omega | (dsimp only; omega)) dX4_errorPosition_9 hlocks

set_option maxHeartbeats 600000 in
set_option maxRecDepth 100000 in
theorem m_X4_about (l : Launch) (G : EVT) (F : Nat → Prop) (sz : Nat) (mo : Nat) (rf : Int32) (σ : MS) (x : Int32)  : Met l yX4_about (ws_ yX4_about cX4_about 4 (some .int)) ({ frames := 2, cells := 0, slots := 0, locals := 45 } : Room) (SPc G F sz [.ref mo, .int x] [modA G mo rf σ] (fun _ => True)) (SQi G F sz (fun (r : Int32) (u : Unit) => (oAbout σ x).1 = 0 → r = (oAbout σ x).2.1) (fun (u : Unit) => [modA G mo (nI (oAbout σ x).1) (oAbout σ x).2.2])) (0) (0) (Fz F sz) := by
  refine sp_of RX4 (by decide) rfl (Nat.le_of_ble_eq_true rfl) ?_
  intro p e s m args below meth c ls QQ hx hb hr hts hown hlocks hml hnm hsz hSep hΦ hE hS hl hQ
  subst hsz
  have hK := hE.1
  have hl : lv_has ls 4 [(0, .ref mo), (1, .int x)] := hl
  obtain ⟨g, hs, kp, T⟩ := σ
  obtain ⟨aT, aN, aL, aP, aD, aK, aZ, aG, aB, aS, bl, bp, tl, fT, fN, fL, fP, fD, fK, fZ, fG, fB, fS, hC, hSep⟩ := mod_unpk hSep
  have hg : gV g := hC.1.1
  have ho : gOk g := hC.1.1.1
  have he : Enc fN g := hC.1.2
  have hT : Pre fT T := hC.2.2.2.1
  have hT20 : T.length ≤ 20 := hC.2.2.2.2.1
  have hT256 : ∀ w ∈ T, w < 256 := hC.2.2.2.2.2
  have hD14 : hs.length ≤ 14 := hC.2.1.1
  have L18 : ∀ (x9 : Nat) , ((x9 ≠ 0 ∧ oAbout (g, hs, kp, T) x = (x9, 0, (g, hs, kp, T))) ∨ (x9 = 0 ∧ inR x.toInt 0 7 = true)) → (x9 < 3) → ∀ (H : Heap) (locs : List Loc) (ls : Array Slot), Sep G.1 clA (Fz F s.heap.size) [pts mo (.inr (3, [.int rf, .ref aT, .int (nI T.length), .ref aN, .ref aL, .ref aP, .ref aD, .int (nI hs.length), .ref aK, .ref aZ, .ref aG, .ref aB, .int (nI bl), .int bp, .ref aS, .int (nI tl)])), pts aT (.inl (G.2.1 0, 20, .inl fT)), pts aN (.inl (G.2.1 0, 89, .inl fN)), pts aL (.inl (G.2.1 0, 89, .inl fL)), pts aP (.inl (G.2.1 0, 89, .inl fP)), pts aD (.inl (G.2.1 0, 1246, .inl fD)), pts aK (.inl (G.2.1 0, 178, .inl fK)), pts aZ (.inl (G.2.1 2, 2, .inl fZ)), pts aG (.inl (G.2.1 0, 18, .inl fG)), pts aB (.inl (G.2.1 0, 5, .inl fB)), pts aS (.inl (G.2.1 0, 5, .inl fS))] H → va_S (Fz F s.heap.size) s.heap H locs → lv_has ls 4 [(0, .ref mo), (1, .int x)] → W p l e ({ frames := 2, cells := 0, slots := 0, locals := 45 } : Room) s m args below meth c H locs (0) (0) QQ (F0 m 18 ls [.int (nI x9), .ref mo]) := by
    intro x9 hrf hx9 H locs ls hSep hS hl
    obtain ⟨Fk_1, hFk_1, hPk_1, hJk_1⟩ := hSep.cut (Pc := [pts mo (.inr (3, [.int rf, .ref aT, .int (nI T.length), .ref aN, .ref aL, .ref aP, .ref aD, .int (nI hs.length), .ref aK, .ref aZ, .ref aG, .ref aB, .int (nI bl), .int bp, .ref aS, .int (nI tl)]))]) (Pr := [pts aT (.inl (G.2.1 0, 20, .inl fT)), pts aN (.inl (G.2.1 0, 89, .inl fN)), pts aL (.inl (G.2.1 0, 89, .inl fL)), pts aP (.inl (G.2.1 0, 89, .inl fP)), pts aD (.inl (G.2.1 0, 1246, .inl fD)), pts aK (.inl (G.2.1 0, 178, .inl fK)), pts aZ (.inl (G.2.1 2, 2, .inl fZ)), pts aG (.inl (G.2.1 0, 18, .inl fG)), pts aB (.inl (G.2.1 0, 5, .inl fB)), pts aS (.inl (G.2.1 0, 5, .inl fS))]) (fun q h => Fz.new (Nat.le_trans hS.1 h)) [0] [1, 2, 3, 4, 5, 6, 7, 8, 9, 10] rfl rfl rfl rfl (by decide)
    refine c_i (va_runV (As := [.int (nI x9)]) (rest := []) ⟨hx, hb, hml, hown, hts⟩ (m_X4_refused l G Fk_1 H.size mo rf aT T.length aN aL aP aD hs.length aK aZ aG aB bl bp aS tl x9 (by omega)) (cwV 1 hts (lw_V q1535 q1537 qs21 q44 q1538) rfl rfl rfl (by decide +kernel) ⟨Nat.le_of_ble_eq_true rfl, Nat.le_of_ble_eq_true rfl⟩) (sp_preV hE hS hFk_1 hPk_1 trivial (sp_recv (ci := 3) hK (hSep.cel (k := 0) rfl) rfl)) rfl rfl hl.1 rfl (lv_room (Nat.le_of_ble_eq_true rfl)) dX4_about_18 ⟨by first | exact Nat.le_of_ble_eq_true rfl | omega | (dsimp only; omega), by first | exact Nat.le_of_ble_eq_true rfl | omega | (dsimp only; omega)⟩) hS hFk_1 hJk_1 (fun r_2 u_3 H locs hpk_1 hSep hS hzk_1 => ?_)
    obtain rfl : r_2 = (bI (decide (0 < x9))) := hpk_1
    refine W.cs (cells' := 0) (slots' := 0) rfl rfl ?_
    have hSep : Sep G.1 clA (Fz F s.heap.size) [pts aT (.inl (G.2.1 0, 20, .inl fT)), pts aN (.inl (G.2.1 0, 89, .inl fN)), pts aL (.inl (G.2.1 0, 89, .inl fL)), pts aP (.inl (G.2.1 0, 89, .inl fP)), pts aD (.inl (G.2.1 0, 1246, .inl fD)), pts aK (.inl (G.2.1 0, 178, .inl fK)), pts aZ (.inl (G.2.1 2, 2, .inl fZ)), pts aG (.inl (G.2.1 0, 18, .inl fG)), pts aB (.inl (G.2.1 0, 5, .inl fB)), pts aS (.inl (G.2.1 0, 5, .inl fS)), pts mo (.inr (3, [.int (nI x9), .ref aT, .int (nI T.length), .ref aN, .ref aL, .ref aP, .ref aD, .int (nI hs.length), .ref aK, .ref aZ, .ref aG, .ref aB, .int (nI bl), .int bp, .ref aS, .int (nI tl)]))] H := hSep
    refine b_if_eq (tgt := 26) hx hb dX4_about_21 (by decide) (fun c21 => ?_) (fun c21 => ?_)
    · obtain ⟨hx0, hgd⟩ := hrf.resolve_left (fun h => h.1 (by have := of_decide_eq_false c21; omega))
      subst hx0
      obtain ⟨n9, hn91, hn92, rfl⟩ := inR_n (n := 7) hgd
      refine lv_aload_n hx hb dX4_about_26 rfl (lv_at hl 0 rfl) ?_
      refine va_get (D := G.1) (ci := 3) (v := .ref aN) (C := RX4) (T := TX4) (N := 16) hx hb hts in_X4 hown hK (hSep.cel (k := 10) rfl) 0 rfl rfl 3 (by decide) (hts _ q1476) (fun _ h9 => h9) rfl dX4_about_27 ?_
      refine lv_iconst (v := (nI 0)) hx hb dX4_about_30 (by decide) ?_
      refine n_iald (i := 0) hx hb hK (hSep.cel (k := 1) rfl) 0 rfl (by omega) (by omega) dX4_about_31 ?_
      refine n_eq (y := (g.1 0)) (he.num (by decide)) ?_
      refine lv_if_ne (tgt := 37) hx hb dX4_about_32 (by decide) (fun c32 => ?_) (fun c32 => ?_)
      · refine lv_iconst (v := (nI 0)) hx hb dX4_about_37 (by decide) ?_
        refine lv_istore_n (lv' := [(2, .int (nI 0)), (0, .ref mo), (1, .int (nI n9))]) hx hb dX4_about_38 rfl hl (by decide) rfl (fun ls hl => ?_)
        refine lv_iconst (v := (nI 0)) hx hb dX4_about_39 (by decide) ?_
        refine lv_istore_n (lv' := [(3, .int (nI 0)), (2, .int (nI 0)), (0, .ref mo), (1, .int (nI n9))]) hx hb dX4_about_40 rfl hl (by decide) rfl (fun ls hl => ?_)
        have L41 : ∀ (fu : Nat) (k : Nat) , 18 - k < fu → (k ≤ 18) → ∀ (H : Heap) (locs : List Loc) (ls : Array Slot), Sep G.1 clA (Fz F s.heap.size) [pts aT (.inl (G.2.1 0, 20, .inl fT)), pts aN (.inl (G.2.1 0, 89, .inl fN)), pts aL (.inl (G.2.1 0, 89, .inl fL)), pts aP (.inl (G.2.1 0, 89, .inl fP)), pts aD (.inl (G.2.1 0, 1246, .inl fD)), pts aK (.inl (G.2.1 0, 178, .inl fK)), pts aZ (.inl (G.2.1 2, 2, .inl fZ)), pts aG (.inl (G.2.1 0, 18, .inl fG)), pts aB (.inl (G.2.1 0, 5, .inl fB)), pts aS (.inl (G.2.1 0, 5, .inl fS)), pts mo (.inr (3, [.int (nI 0), .ref aT, .int (nI T.length), .ref aN, .ref aL, .ref aP, .ref aD, .int (nI hs.length), .ref aK, .ref aZ, .ref aG, .ref aB, .int (nI bl), .int bp, .ref aS, .int (nI tl)]))] H → va_S (Fz F s.heap.size) s.heap H locs → lv_has ls 4 [(3, .int (nI k)), (2, .int (mkS (fun w => decide (w ∈ gRem g)) k)), (0, .ref mo), (1, .int (nI n9))] → W p l e ({ frames := 2, cells := 0, slots := 0, locals := 45 } : Room) s m args below meth c H locs (0) (0) QQ (F0 m 41 ls []) := by
          intro fu
          induction fu with
          | zero => intro k hm; exact absurd hm (Nat.not_lt_zero _)
          | succ fu ih41 =>
            intro k hm41 hp41_0 H locs ls hSep hS hl
            refine lv_iload_n hx hb dX4_about_41 rfl (lv_at hl 0 rfl) ?_
            refine lv_bipush (v := (nI 18)) hx hb dX4_about_42 (by decide) ?_
            refine n_icmp_ge (tgt := 74) hx hb (by omega) (by omega) dX4_about_44 (by decide) (fun c44 => ?_) (fun c44 => ?_)
            · obtain rfl : k = 18 := by omega
              refine lv_iload_n hx hb dX4_about_74 rfl (lv_at hl 3 rfl) ?_
              refine lv_iconst (v := (nI 1)) hx hb dX4_about_75 (by decide) ?_
              refine n_icmp_ne (tgt := 89) hx hb (by omega) (by omega) dX4_about_76 (by decide) (fun c76 => ?_) (fun c76 => ?_)
              · refine lv_iload_n hx hb dX4_about_89 rfl (lv_at hl 3 rfl) ?_
                refine lv_bipush (v := (nI 6)) hx hb dX4_about_90 (by decide) ?_
                refine n_icmp_ne (tgt := 125) hx hb (by omega) (by omega) dX4_about_92 (by decide) (fun c92 => ?_) (fun c92 => ?_)
                · refine lv_iload_n hx hb dX4_about_125 rfl (lv_at hl 3 rfl) ?_
                  refine lv_bipush (v := (nI 7)) hx hb dX4_about_126 (by decide) ?_
                  refine n_icmp_ne (tgt := 135) hx hb (by omega) (by omega) dX4_about_128 (by decide) (fun c128 => ?_) (fun c128 => ?_)
                  · refine lv_aload_n hx hb dX4_about_135 rfl (lv_at hl 2 rfl) ?_
                    refine va_get (D := G.1) (ci := 3) (v := .ref aN) (C := RX4) (T := TX4) (N := 16) hx hb hts in_X4 hown hK (hSep.cel (k := 10) rfl) 0 rfl rfl 3 (by decide) (hts _ q1476) (fun _ h9 => h9) rfl dX4_about_136 ?_
                    refine lv_iload_n hx hb dX4_about_139 rfl (lv_at hl 3 rfl) ?_
                    refine n_iald (i := n9) hx hb hK (hSep.cel (k := 1) rfl) 0 rfl (by omega) (by omega) dX4_about_140 ?_
                    refine n_eq (y := (g.1 n9)) (he.num (by omega)) ?_
                    have hop : oAbout (g, hs, kp, T) (nI n9) = (0, (g.1 n9), g, hs, kp, T) := by unfold oAbout; rw [if_neg (by rw [hgd]; decide)]; refine congrArg (fun v => (0, v, _)) ?_; show abA g (nI n9) = _; unfold abA; rw [if_neg (show ¬ g.1 0 = nI 0 from c32), if_neg (fun h => c76 (nI_inj (by omega) (by decide) h)), if_neg (fun h => c92 (nI_inj (by omega) (by decide) h)), if_neg (fun h => c128 (nI_inj (by omega) (by decide) h)), nI_toInt hn92, Int.toNat_natCast]
                    rw [hQ]
                    exact r_i (r := (g.1 n9)) (u := ()) hx hb hr (by rw [hop]; exact fun _ => rfl) (by rw [hop]; exact mod_close (hSep.pick [10, 0, 1, 2, 3, 4, 5, 6, 7, 8, 9] rfl rfl) rfl rfl rfl hC) hS (by first | exact Nat.le_of_ble_eq_true rfl | omega | (dsimp only; omega)) (by first | exact Nat.le_of_ble_eq_true rfl | omega | (dsimp only; omega)) dX4_about_141 hlocks
                  · refine lv_iload_n hx hb dX4_about_131 rfl (lv_at hl 1 rfl) ?_
                    refine lv_goto (tgt := 141) hx hb dX4_about_132 (by decide) ?_
                    refine n_eq (y := (mkS (fun w => decide (w ∈ gRem g)) 18)) (rfl) ?_
                    have hop : oAbout (g, hs, kp, T) (nI n9) = (0, (mkS (fun w => decide (w ∈ gRem g)) 18), g, hs, kp, T) := by unfold oAbout; rw [if_neg (by rw [hgd]; decide)]; refine congrArg (fun v => (0, v, _)) ?_; show abA g (nI n9) = _; unfold abA; rw [if_neg (show ¬ g.1 0 = nI 0 from c32), if_neg (fun h => c76 (nI_inj (by omega) (by decide) h)), if_neg (fun h => c92 (nI_inj (by omega) (by decide) h)), if_pos (by rw [c128])]
                    rw [hQ]
                    exact r_i (r := (mkS (fun w => decide (w ∈ gRem g)) 18)) (u := ()) hx hb hr (by rw [hop]; exact fun _ => rfl) (by rw [hop]; exact mod_close (hSep.pick [10, 0, 1, 2, 3, 4, 5, 6, 7, 8, 9] rfl rfl) rfl rfl rfl hC) hS (by first | exact Nat.le_of_ble_eq_true rfl | omega | (dsimp only; omega)) (by first | exact Nat.le_of_ble_eq_true rfl | omega | (dsimp only; omega)) dX4_about_141 hlocks
                · refine lv_aload_n hx hb dX4_about_95 rfl (lv_at hl 2 rfl) ?_
                  refine va_get (D := G.1) (ci := 3) (v := .ref aN) (C := RX4) (T := TX4) (N := 16) hx hb hts in_X4 hown hK (hSep.cel (k := 10) rfl) 0 rfl rfl 3 (by decide) (hts _ q1476) (fun _ h9 => h9) rfl dX4_about_96 ?_
                  refine lv_bipush (v := (nI 17)) hx hb dX4_about_99 (by decide) ?_
                  refine n_iald (i := 17) hx hb hK (hSep.cel (k := 1) rfl) 0 rfl (by omega) (by omega) dX4_about_101 ?_
                  refine n_eq (y := (g.1 17)) (he.num (by decide)) ?_
                  refine lv_iconst (v := (nI 2)) hx hb dX4_about_102 (by decide) ?_
                  refine lv_aload_n hx hb dX4_about_103 rfl (lv_at hl 2 rfl) ?_
                  refine va_get (D := G.1) (ci := 3) (v := .ref aN) (C := RX4) (T := TX4) (N := 16) hx hb hts in_X4 hown hK (hSep.cel (k := 10) rfl) 0 rfl rfl 3 (by decide) (hts _ q1476) (fun _ h9 => h9) rfl dX4_about_104 ?_
                  refine lv_bipush (v := (nI 18)) hx hb dX4_about_107 (by decide) ?_
                  refine n_iald (i := 18) hx hb hK (hSep.cel (k := 1) rfl) 0 rfl (by omega) (by omega) dX4_about_109 ?_
                  refine n_eq (y := (g.1 18)) (he.num (by decide)) ?_
                  refine lv_imul hx hb dX4_about_110 ?_
                  refine lv_iadd hx hb dX4_about_111 ?_
                  refine lv_iconst (v := (nI 4)) hx hb dX4_about_112 (by decide) ?_
                  refine lv_aload_n hx hb dX4_about_113 rfl (lv_at hl 2 rfl) ?_
                  refine va_get (D := G.1) (ci := 3) (v := .ref aN) (C := RX4) (T := TX4) (N := 16) hx hb hts in_X4 hown hK (hSep.cel (k := 10) rfl) 0 rfl rfl 3 (by decide) (hts _ q1476) (fun _ h9 => h9) rfl dX4_about_114 ?_
                  refine lv_bipush (v := (nI 19)) hx hb dX4_about_117 (by decide) ?_
                  refine n_iald (i := 19) hx hb hK (hSep.cel (k := 1) rfl) 0 rfl (by omega) (by omega) dX4_about_119 ?_
                  refine n_eq (y := (g.1 19)) (he.num (by decide)) ?_
                  refine lv_imul hx hb dX4_about_120 ?_
                  refine lv_iadd hx hb dX4_about_121 ?_
                  refine lv_goto (tgt := 141) hx hb dX4_about_122 (by decide) ?_
                  refine n_eq (y := (((g.1 17) + ((nI 2) * (g.1 18))) + ((nI 4) * (g.1 19)))) (rfl) ?_
                  have hop : oAbout (g, hs, kp, T) (nI n9) = (0, (((g.1 17) + ((nI 2) * (g.1 18))) + ((nI 4) * (g.1 19))), g, hs, kp, T) := by unfold oAbout; rw [if_neg (by rw [hgd]; decide)]; refine congrArg (fun v => (0, v, _)) ?_; show abA g (nI n9) = _; unfold abA; rw [if_neg (show ¬ g.1 0 = nI 0 from c32), if_neg (fun h => c76 (nI_inj (by omega) (by decide) h)), if_pos (by rw [c92])]
                  rw [hQ]
                  exact r_i (r := (((g.1 17) + ((nI 2) * (g.1 18))) + ((nI 4) * (g.1 19)))) (u := ()) hx hb hr (by rw [hop]; exact fun _ => rfl) (by rw [hop]; exact mod_close (hSep.pick [10, 0, 1, 2, 3, 4, 5, 6, 7, 8, 9] rfl rfl) rfl rfl rfl hC) hS (by first | exact Nat.le_of_ble_eq_true rfl | omega | (dsimp only; omega)) (by first | exact Nat.le_of_ble_eq_true rfl | omega | (dsimp only; omega)) dX4_about_141 hlocks
              · refine lv_aload_n hx hb dX4_about_79 rfl (lv_at hl 2 rfl) ?_
                refine va_get (D := G.1) (ci := 3) (v := .ref aN) (C := RX4) (T := TX4) (N := 16) hx hb hts in_X4 hown hK (hSep.cel (k := 10) rfl) 0 rfl rfl 3 (by decide) (hts _ q1476) (fun _ h9 => h9) rfl dX4_about_80 ?_
                have hFk_4 : ∀ q, Fz (fun _ => False) H.size q → (Fz F s.heap.size) q := fun q h => by rcases h with h | h; exact h.elim; exact Fz.new (Nat.le_trans hS.1 h)
                have hPk_4 : Sep G.1 clA (Fz (fun _ => False) H.size) [] H := sp_nil
                have hJk_4 := sp_nilJ (F := (fun _ => False)) hSep (fun _ => id) hFk_4
                refine c_i (va_runS (As := [.ref aN]) (rest := []) ⟨hx, hb, hml, hown, hts⟩ (m_X4_next l G H.size aN fN g (by first | assumption | omega)) (va_cwS 1 hts (lw_S q1570 q1571 q44 q1572) rfl rfl rfl (by decide +kernel) ⟨Nat.le_of_ble_eq_true rfl, Nat.le_of_ble_eq_true rfl⟩) (sp_preS hE hS hFk_4 hPk_4 (hSep.cel (k := 1) rfl)) rfl rfl hl.1 rfl (lv_room (Nat.le_of_ble_eq_true rfl)) dX4_about_83 ⟨by first | exact Nat.le_of_ble_eq_true rfl | omega | (dsimp only; omega), by first | exact Nat.le_of_ble_eq_true rfl | omega | (dsimp only; omega)⟩) hS hFk_4 hJk_4 (fun r_5 u_6 H locs hpk_4 hSep hS hzk_4 => ?_)
                obtain rfl : r_5 = (gNextV g) := hpk_4
                refine W.cs (cells' := 0) (slots' := 0) rfl rfl ?_
                have hSep : Sep G.1 clA (Fz F s.heap.size) [pts aT (.inl (G.2.1 0, 20, .inl fT)), pts aN (.inl (G.2.1 0, 89, .inl fN)), pts aL (.inl (G.2.1 0, 89, .inl fL)), pts aP (.inl (G.2.1 0, 89, .inl fP)), pts aD (.inl (G.2.1 0, 1246, .inl fD)), pts aK (.inl (G.2.1 0, 178, .inl fK)), pts aZ (.inl (G.2.1 2, 2, .inl fZ)), pts aG (.inl (G.2.1 0, 18, .inl fG)), pts aB (.inl (G.2.1 0, 5, .inl fB)), pts aS (.inl (G.2.1 0, 5, .inl fS)), pts mo (.inr (3, [.int (nI 0), .ref aT, .int (nI T.length), .ref aN, .ref aL, .ref aP, .ref aD, .int (nI hs.length), .ref aK, .ref aZ, .ref aG, .ref aB, .int (nI bl), .int bp, .ref aS, .int (nI tl)]))] H := hSep
                refine lv_goto (tgt := 141) hx hb dX4_about_86 (by decide) ?_
                refine n_eq (y := (gNextV g)) (rfl) ?_
                have hop : oAbout (g, hs, kp, T) (nI n9) = (0, (gNextV g), g, hs, kp, T) := by unfold oAbout; rw [if_neg (by rw [hgd]; decide)]; refine congrArg (fun v => (0, v, _)) ?_; show abA g (nI n9) = _; unfold abA; rw [if_neg (show ¬ g.1 0 = nI 0 from c32), if_pos (by rw [c76])]
                rw [hQ]
                exact r_i (r := (gNextV g)) (u := ()) hx hb hr (by rw [hop]; exact fun _ => rfl) (by rw [hop]; exact mod_close (hSep.pick [10, 0, 1, 2, 3, 4, 5, 6, 7, 8, 9] rfl rfl) rfl rfl rfl hC) hS (by first | exact Nat.le_of_ble_eq_true rfl | omega | (dsimp only; omega)) (by first | exact Nat.le_of_ble_eq_true rfl | omega | (dsimp only; omega)) dX4_about_141 hlocks
            · have L66 : ∀ (x6 : Int32) , (x6 = if decide (k ∈ gRem g) then nI 1 <<< (nI k &&& 31) else nI 0) → ∀ (H : Heap) (locs : List Loc) (ls : Array Slot), Sep G.1 clA (Fz F s.heap.size) [pts aT (.inl (G.2.1 0, 20, .inl fT)), pts aN (.inl (G.2.1 0, 89, .inl fN)), pts aL (.inl (G.2.1 0, 89, .inl fL)), pts aP (.inl (G.2.1 0, 89, .inl fP)), pts aD (.inl (G.2.1 0, 1246, .inl fD)), pts aK (.inl (G.2.1 0, 178, .inl fK)), pts aZ (.inl (G.2.1 2, 2, .inl fZ)), pts aG (.inl (G.2.1 0, 18, .inl fG)), pts aB (.inl (G.2.1 0, 5, .inl fB)), pts aS (.inl (G.2.1 0, 5, .inl fS)), pts mo (.inr (3, [.int (nI 0), .ref aT, .int (nI T.length), .ref aN, .ref aL, .ref aP, .ref aD, .int (nI hs.length), .ref aK, .ref aZ, .ref aG, .ref aB, .int (nI bl), .int bp, .ref aS, .int (nI tl)]))] H → va_S (Fz F s.heap.size) s.heap H locs → lv_has ls 4 [(3, .int (nI k)), (2, .int (mkS (fun w => decide (w ∈ gRem g)) k)), (0, .ref mo), (1, .int (nI n9))] → W p l e ({ frames := 2, cells := 0, slots := 0, locals := 45 } : Room) s m args below meth c H locs (0) (0) QQ (F0 m 66 ls [.int x6, .int (mkS (fun w => decide (w ∈ gRem g)) k)]) := by
                intro x6 hp66_0 H locs ls hSep hS hl
                refine lv_ior hx hb dX4_about_66 ?_
                refine n_eq (y := (mkS (fun w => decide (w ∈ gRem g)) (k + 1))) (by rw [hp66_0]; rfl) ?_
                refine lv_istore_n (lv' := [(2, .int (mkS (fun w => decide (w ∈ gRem g)) (k + 1))), (3, .int (nI k)), (0, .ref mo), (1, .int (nI n9))]) hx hb dX4_about_67 rfl hl (by decide) rfl (fun ls hl => ?_)
                refine lv_iinc (v := (nI (k + 1))) (lv' := [(3, .int (nI (k + 1))), (2, .int (mkS (fun w => decide (w ∈ gRem g)) (k + 1))), (0, .ref mo), (1, .int (nI n9))]) hx hb dX4_about_68 hl (k := 1) rfl (nI_inc k 1) (by decide) rfl (fun ls hl => ?_)
                refine lv_goto (tgt := 41) hx hb dX4_about_71 (by decide) ?_
                exact ih41 (k + 1) (by omega) (by omega) _ _ _ hSep hS (lv_sub hl [0, 1, 2, 3] rfl)
              refine lv_iload_n hx hb dX4_about_47 rfl (lv_at hl 1 rfl) ?_
              refine lv_aload_n hx hb dX4_about_48 rfl (lv_at hl 2 rfl) ?_
              refine va_get (D := G.1) (ci := 3) (v := .ref aN) (C := RX4) (T := TX4) (N := 16) hx hb hts in_X4 hown hK (hSep.cel (k := 10) rfl) 0 rfl rfl 3 (by decide) (hts _ q1476) (fun _ h9 => h9) rfl dX4_about_49 ?_
              refine lv_iload_n hx hb dX4_about_52 rfl (lv_at hl 0 rfl) ?_
              have hFk_7 : ∀ q, Fz (fun _ => False) H.size q → (Fz F s.heap.size) q := fun q h => by rcases h with h | h; exact h.elim; exact Fz.new (Nat.le_trans hS.1 h)
              have hPk_7 : Sep G.1 clA (Fz (fun _ => False) H.size) [] H := sp_nil
              have hJk_7 := sp_nilJ (F := (fun _ => False)) hSep (fun _ => id) hFk_7
              refine c_i (va_runS (As := [.ref aN, .int (nI k)]) (rest := [.int (mkS (fun w => decide (w ∈ gRem g)) k)]) ⟨hx, hb, hml, hown, hts⟩ (m_X4_isRemembered l G H.size aN fN g k (by first | assumption | omega) (by first | assumption | omega) (by first | assumption | omega)) (va_cwS 2 hts (lw_S q1564 q1565 q44 q1566) rfl rfl rfl (by decide +kernel) ⟨Nat.le_of_ble_eq_true rfl, Nat.le_of_ble_eq_true rfl⟩) (sp_preS hE hS hFk_7 hPk_7 (hSep.cel (k := 1) rfl)) rfl rfl hl.1 rfl (lv_room (Nat.le_of_ble_eq_true rfl)) dX4_about_53 ⟨by first | exact Nat.le_of_ble_eq_true rfl | omega | (dsimp only; omega), by first | exact Nat.le_of_ble_eq_true rfl | omega | (dsimp only; omega)⟩) hS hFk_7 hJk_7 (fun r_8 u_9 H locs hpk_7 hSep hS hzk_7 => ?_)
              obtain rfl : r_8 = (bI (decide (k ∈ gRem g))) := hpk_7
              refine W.cs (cells' := 0) (slots' := 0) rfl rfl ?_
              have hSep : Sep G.1 clA (Fz F s.heap.size) [pts aT (.inl (G.2.1 0, 20, .inl fT)), pts aN (.inl (G.2.1 0, 89, .inl fN)), pts aL (.inl (G.2.1 0, 89, .inl fL)), pts aP (.inl (G.2.1 0, 89, .inl fP)), pts aD (.inl (G.2.1 0, 1246, .inl fD)), pts aK (.inl (G.2.1 0, 178, .inl fK)), pts aZ (.inl (G.2.1 2, 2, .inl fZ)), pts aG (.inl (G.2.1 0, 18, .inl fG)), pts aB (.inl (G.2.1 0, 5, .inl fB)), pts aS (.inl (G.2.1 0, 5, .inl fS)), pts mo (.inr (3, [.int (nI 0), .ref aT, .int (nI T.length), .ref aN, .ref aL, .ref aP, .ref aD, .int (nI hs.length), .ref aK, .ref aZ, .ref aG, .ref aB, .int (nI bl), .int bp, .ref aS, .int (nI tl)]))] H := hSep
              refine b_if_eq (tgt := 65) hx hb dX4_about_56 (by decide) (fun c56 => ?_) (fun c56 => ?_)
              · refine lv_iconst (v := (nI 0)) hx hb dX4_about_65 (by decide) ?_
                exact L66 (nI 0) ((if_neg (by rw [c56]; decide)).symm) _ _ _ hSep hS (lv_sub hl [0, 1, 2, 3] rfl)
              · refine lv_iconst (v := (nI 1)) hx hb dX4_about_59 (by decide) ?_
                refine lv_iload_n hx hb dX4_about_60 rfl (lv_at hl 0 rfl) ?_
                refine lv_ishl hx hb dX4_about_61 ?_
                refine lv_goto (tgt := 66) hx hb dX4_about_62 (by decide) ?_
                exact L66 ((nI 1) <<< ((nI k) &&& 31)) ((if_pos c56).symm) _ _ _ hSep hS (lv_sub hl [0, 1, 2, 3] rfl)
        exact L41 (18 - 0 + 1) 0 (Nat.lt_succ_self _) (by omega) _ _ _ hSep hS (lv_sub hl [0, 1, 2, 3] rfl)
      · refine lv_iconst (v := (nI 0)) hx hb dX4_about_35 (by decide) ?_
        have hop : oAbout (g, hs, kp, T) (nI n9) = (0, nI 0, g, hs, kp, T) := by unfold oAbout; rw [if_neg (by rw [hgd]; decide)]; unfold abA; rw [if_pos (show g.1 0 = nI 0 from c32)]
        rw [hQ]
        exact r_i (r := (nI 0)) (u := ()) hx hb hr (by rw [hop]; exact fun _ => rfl) (by rw [hop]; exact mod_close (hSep.pick [10, 0, 1, 2, 3, 4, 5, 6, 7, 8, 9] rfl rfl) rfl rfl rfl hC) hS (by first | exact Nat.le_of_ble_eq_true rfl | omega | (dsimp only; omega)) (by first | exact Nat.le_of_ble_eq_true rfl | omega | (dsimp only; omega)) dX4_about_36 hlocks
    · obtain ⟨hx1, hop⟩ := hrf.resolve_right (fun h => absurd (of_decide_eq_true c21) (by rw [h.1]; decide))
      refine lv_iconst (v := (nI 0)) hx hb dX4_about_24 (by decide) ?_
      rw [hQ]
      exact r_i (r := (nI 0)) (u := ()) hx hb hr (by rw [hop]; exact fun h => absurd h hx1) (by rw [hop]; exact mod_close (hSep.pick [10, 0, 1, 2, 3, 4, 5, 6, 7, 8, 9] rfl rfl) rfl rfl rfl hC) hS (by first | exact Nat.le_of_ble_eq_true rfl | omega | (dsimp only; omega)) (by first | exact Nat.le_of_ble_eq_true rfl | omega | (dsimp only; omega)) dX4_about_25 hlocks
  refine lv_aload_n hx hb dX4_about_0 rfl (lv_at hl 0 rfl) ?_
  refine lv_iload_n hx hb dX4_about_1 rfl (lv_at hl 1 rfl) ?_
  refine lv_i2l hx hb dX4_about_2 rfl ?_
  refine lv_lconst (v := 0) hx hb dX4_about_3 (by decide) ?_
  refine lv_ldc2 (v := 7) hx hb hown (hts _ q1563) dX4_about_4 ?_
  have hFk_10 : ∀ q, Fz (fun _ => False) s.heap.size q → (Fz F s.heap.size) q := fun q h => by rcases h with h | h; exact h.elim; exact Fz.new (Nat.le_trans hS.1 h)
  have hPk_10 : Sep G.1 clA (Fz (fun _ => False) s.heap.size) [] s.heap := sp_nil
  have hJk_10 := sp_nilJ (F := (fun _ => False)) hSep (fun _ => id) hFk_10
  refine c_i (va_runS (As := [.long x.toInt64, .long (0 : Int64), .long (7 : Int64)]) (rest := [.ref mo]) ⟨hx, hb, hml, hown, hts⟩ (m_X4_in l G s.heap.size x.toInt64 (0 : Int64) (7 : Int64) ) (va_cwS 3 hts (lw_S q1532 q1533 q44 q1534) rfl rfl rfl (by decide +kernel) ⟨Nat.le_of_ble_eq_true rfl, Nat.le_of_ble_eq_true rfl⟩) (sp_preS hE hS hFk_10 hPk_10 trivial) rfl rfl hl.1 rfl (lv_room (Nat.le_of_ble_eq_true rfl)) dX4_about_7 ⟨by first | exact Nat.le_of_ble_eq_true rfl | omega | (dsimp only; omega), by first | exact Nat.le_of_ble_eq_true rfl | omega | (dsimp only; omega)⟩) hS hFk_10 hJk_10 (fun r_11 u_12 H locs hpk_10 hSep hS hzk_10 => ?_)
  obtain rfl : r_11 = (bI (inR x.toInt64.toInt (0 : Int64).toInt (7 : Int64).toInt)) := hpk_10
  refine W.cs (cells' := 0) (slots' := 0) rfl rfl ?_
  have hSep : Sep G.1 clA (Fz F s.heap.size) [pts mo (.inr (3, [.int rf, .ref aT, .int (nI T.length), .ref aN, .ref aL, .ref aP, .ref aD, .int (nI hs.length), .ref aK, .ref aZ, .ref aG, .ref aB, .int (nI bl), .int bp, .ref aS, .int (nI tl)])), pts aT (.inl (G.2.1 0, 20, .inl fT)), pts aN (.inl (G.2.1 0, 89, .inl fN)), pts aL (.inl (G.2.1 0, 89, .inl fL)), pts aP (.inl (G.2.1 0, 89, .inl fP)), pts aD (.inl (G.2.1 0, 1246, .inl fD)), pts aK (.inl (G.2.1 0, 178, .inl fK)), pts aZ (.inl (G.2.1 2, 2, .inl fZ)), pts aG (.inl (G.2.1 0, 18, .inl fG)), pts aB (.inl (G.2.1 0, 5, .inl fB)), pts aS (.inl (G.2.1 0, 5, .inl fS))] H := hSep
  refine n_eq (y := (bI (inR x.toInt 0 7))) (by rw [Int32.toInt_toInt64]; rfl) ?_
  refine b_if_eq (tgt := 17) hx hb dX4_about_10 (by decide) (fun c10 => ?_) (fun c10 => ?_)
  · refine lv_iconst (v := (nI 1)) hx hb dX4_about_17 (by decide) ?_
    exact L18 1 (Or.inl ⟨by decide, by unfold oAbout; rw [if_pos c10]⟩) (by decide) _ _ _ hSep hS (lv_sub hl [0, 1] rfl)
  · refine lv_iconst (v := (nI 0)) hx hb dX4_about_13 (by decide) ?_
    refine lv_goto (tgt := 18) hx hb dX4_about_14 (by decide) ?_
    exact L18 0 (Or.inr ⟨rfl, c10⟩) (by decide) _ _ _ hSep hS (lv_sub hl [0, 1] rfl)

set_option maxHeartbeats 600000 in
set_option maxRecDepth 100000 in
theorem m_X4_teller (l : Launch) (G : EVT) (F : Nat → Prop) (sz : Nat) (mo : Nat) (rf : Int32) (σ : MS) (t : Int32) (x : Int32)  : Met l yX4_teller (ws_ yX4_teller cX4_teller 6 (some .int)) ({ frames := 2, cells := 0, slots := 0, locals := 63 } : Room) (SPc G F sz [.ref mo, .int t, .int x] [modA G mo rf σ] (fun _ => True)) (SQi G F sz (fun (r : Int32) (u : Unit) => (oTeller σ t x).1 = 0 → r = (oTeller σ t x).2.1) (fun (u : Unit) => [modA G mo (nI (oTeller σ t x).1) (oTeller σ t x).2.2])) (0) (0) (Fz F sz) := by
  refine sp_of RX4 (by decide) rfl (Nat.le_of_ble_eq_true rfl) ?_
  intro p e s m args below meth c ls QQ hx hb hr hts hown hlocks hml hnm hsz hSep hΦ hE hS hl hQ
  subst hsz
  have hK := hE.1
  have hl : lv_has ls 6 [(0, .ref mo), (1, .int t), (2, .int x)] := hl
  obtain ⟨g, hs, kp, T⟩ := σ
  obtain ⟨aT, aN, aL, aP, aD, aK, aZ, aG, aB, aS, bl, bp, tl, fT, fN, fL, fP, fD, fK, fZ, fG, fB, fS, hC, hSep⟩ := mod_unpk hSep
  have hg : gV g := hC.1.1
  have ho : gOk g := hC.1.1.1
  have he : Enc fN g := hC.1.2
  have hT : Pre fT T := hC.2.2.2.1
  have hT20 : T.length ≤ 20 := hC.2.2.2.2.1
  have hT256 : ∀ w ∈ T, w < 256 := hC.2.2.2.2.2
  have hD14 : hs.length ≤ 14 := hC.2.1.1
  have L29 : ∀ (x9 : Nat) , ((x9 ≠ 0 ∧ oTeller (g, hs, kp, T) t x = (x9, 0, (g, hs, kp, T))) ∨ (x9 = 0 ∧ (inR t.toInt 0 1 = true ∧ inR x.toInt 0 4 = true))) → (x9 < 3) → ∀ (H : Heap) (locs : List Loc) (ls : Array Slot), Sep G.1 clA (Fz F s.heap.size) [pts mo (.inr (3, [.int rf, .ref aT, .int (nI T.length), .ref aN, .ref aL, .ref aP, .ref aD, .int (nI hs.length), .ref aK, .ref aZ, .ref aG, .ref aB, .int (nI bl), .int bp, .ref aS, .int (nI tl)])), pts aT (.inl (G.2.1 0, 20, .inl fT)), pts aN (.inl (G.2.1 0, 89, .inl fN)), pts aL (.inl (G.2.1 0, 89, .inl fL)), pts aP (.inl (G.2.1 0, 89, .inl fP)), pts aD (.inl (G.2.1 0, 1246, .inl fD)), pts aK (.inl (G.2.1 0, 178, .inl fK)), pts aZ (.inl (G.2.1 2, 2, .inl fZ)), pts aG (.inl (G.2.1 0, 18, .inl fG)), pts aB (.inl (G.2.1 0, 5, .inl fB)), pts aS (.inl (G.2.1 0, 5, .inl fS))] H → va_S (Fz F s.heap.size) s.heap H locs → lv_has ls 6 [(0, .ref mo), (1, .int t), (2, .int x)] → W p l e ({ frames := 2, cells := 0, slots := 0, locals := 63 } : Room) s m args below meth c H locs (0) (0) QQ (F0 m 29 ls [.int (nI x9), .ref mo]) := by
    intro x9 hrf hx9 H locs ls hSep hS hl
    obtain ⟨Fk_1, hFk_1, hPk_1, hJk_1⟩ := hSep.cut (Pc := [pts mo (.inr (3, [.int rf, .ref aT, .int (nI T.length), .ref aN, .ref aL, .ref aP, .ref aD, .int (nI hs.length), .ref aK, .ref aZ, .ref aG, .ref aB, .int (nI bl), .int bp, .ref aS, .int (nI tl)]))]) (Pr := [pts aT (.inl (G.2.1 0, 20, .inl fT)), pts aN (.inl (G.2.1 0, 89, .inl fN)), pts aL (.inl (G.2.1 0, 89, .inl fL)), pts aP (.inl (G.2.1 0, 89, .inl fP)), pts aD (.inl (G.2.1 0, 1246, .inl fD)), pts aK (.inl (G.2.1 0, 178, .inl fK)), pts aZ (.inl (G.2.1 2, 2, .inl fZ)), pts aG (.inl (G.2.1 0, 18, .inl fG)), pts aB (.inl (G.2.1 0, 5, .inl fB)), pts aS (.inl (G.2.1 0, 5, .inl fS))]) (fun q h => Fz.new (Nat.le_trans hS.1 h)) [0] [1, 2, 3, 4, 5, 6, 7, 8, 9, 10] rfl rfl rfl rfl (by decide)
    refine c_i (va_runV (As := [.int (nI x9)]) (rest := []) ⟨hx, hb, hml, hown, hts⟩ (m_X4_refused l G Fk_1 H.size mo rf aT T.length aN aL aP aD hs.length aK aZ aG aB bl bp aS tl x9 (by omega)) (cwV 1 hts (lw_V q1535 q1537 qs21 q44 q1538) rfl rfl rfl (by decide +kernel) ⟨Nat.le_of_ble_eq_true rfl, Nat.le_of_ble_eq_true rfl⟩) (sp_preV hE hS hFk_1 hPk_1 trivial (sp_recv (ci := 3) hK (hSep.cel (k := 0) rfl) rfl)) rfl rfl hl.1 rfl (lv_room (Nat.le_of_ble_eq_true rfl)) dX4_teller_29 ⟨by first | exact Nat.le_of_ble_eq_true rfl | omega | (dsimp only; omega), by first | exact Nat.le_of_ble_eq_true rfl | omega | (dsimp only; omega)⟩) hS hFk_1 hJk_1 (fun r_2 u_3 H locs hpk_1 hSep hS hzk_1 => ?_)
    obtain rfl : r_2 = (bI (decide (0 < x9))) := hpk_1
    refine W.cs (cells' := 0) (slots' := 0) rfl rfl ?_
    have hSep : Sep G.1 clA (Fz F s.heap.size) [pts aT (.inl (G.2.1 0, 20, .inl fT)), pts aN (.inl (G.2.1 0, 89, .inl fN)), pts aL (.inl (G.2.1 0, 89, .inl fL)), pts aP (.inl (G.2.1 0, 89, .inl fP)), pts aD (.inl (G.2.1 0, 1246, .inl fD)), pts aK (.inl (G.2.1 0, 178, .inl fK)), pts aZ (.inl (G.2.1 2, 2, .inl fZ)), pts aG (.inl (G.2.1 0, 18, .inl fG)), pts aB (.inl (G.2.1 0, 5, .inl fB)), pts aS (.inl (G.2.1 0, 5, .inl fS)), pts mo (.inr (3, [.int (nI x9), .ref aT, .int (nI T.length), .ref aN, .ref aL, .ref aP, .ref aD, .int (nI hs.length), .ref aK, .ref aZ, .ref aG, .ref aB, .int (nI bl), .int bp, .ref aS, .int (nI tl)]))] H := hSep
    refine b_if_eq (tgt := 37) hx hb dX4_teller_32 (by decide) (fun c32 => ?_) (fun c32 => ?_)
    · obtain ⟨hx0, hgd⟩ := hrf.resolve_left (fun h => h.1 (by have := of_decide_eq_false c32; omega))
      subst hx0
      obtain ⟨t9, ht91, ht92, rfl⟩ := inR_n (n := 1) hgd.1
      obtain ⟨n9, hn91, hn92, rfl⟩ := inR_n (n := 4) hgd.2
      refine lv_iconst (v := (nI 0)) hx hb dX4_teller_37 (by decide) ?_
      refine lv_istore_n (lv' := [(3, .int (nI 0)), (0, .ref mo), (1, .int (nI t9)), (2, .int (nI n9))]) hx hb dX4_teller_38 rfl hl (by decide) rfl (fun ls hl => ?_)
      refine lv_iconst (v := (nI 0)) hx hb dX4_teller_39 (by decide) ?_
      refine lv_istore (lv' := [(4, .int (nI 0)), (3, .int (nI 0)), (0, .ref mo), (1, .int (nI t9)), (2, .int (nI n9))]) hx hb dX4_teller_40 hl (by decide) rfl (fun ls hl => ?_)
      refine lv_iconst (v := (nI 0)) hx hb dX4_teller_42 (by decide) ?_
      refine lv_istore (lv' := [(5, .int (nI 0)), (4, .int (nI 0)), (3, .int (nI 0)), (0, .ref mo), (1, .int (nI t9)), (2, .int (nI n9))]) hx hb dX4_teller_43 hl (by decide) rfl (fun ls hl => ?_)
      have L45 : ∀ (fu : Nat) (k : Nat) , 18 - k < fu → (k ≤ 18) → ∀ (H : Heap) (locs : List Loc) (ls : Array Slot), Sep G.1 clA (Fz F s.heap.size) [pts aT (.inl (G.2.1 0, 20, .inl fT)), pts aN (.inl (G.2.1 0, 89, .inl fN)), pts aL (.inl (G.2.1 0, 89, .inl fL)), pts aP (.inl (G.2.1 0, 89, .inl fP)), pts aD (.inl (G.2.1 0, 1246, .inl fD)), pts aK (.inl (G.2.1 0, 178, .inl fK)), pts aZ (.inl (G.2.1 2, 2, .inl fZ)), pts aG (.inl (G.2.1 0, 18, .inl fG)), pts aB (.inl (G.2.1 0, 5, .inl fB)), pts aS (.inl (G.2.1 0, 5, .inl fS)), pts mo (.inr (3, [.int (nI 0), .ref aT, .int (nI T.length), .ref aN, .ref aL, .ref aP, .ref aD, .int (nI hs.length), .ref aK, .ref aZ, .ref aG, .ref aB, .int (nI bl), .int bp, .ref aS, .int (nI tl)]))] H → va_S (Fz F s.heap.size) s.heap H locs → lv_has ls 6 [(5, .int (nI k)), (4, .int (mkS (fun w => decide (w ∈ gL g t9)) k)), (3, .int (mkS (fun w => decide (w ∈ gB g t9)) k)), (0, .ref mo), (1, .int (nI t9)), (2, .int (nI n9))] → W p l e ({ frames := 2, cells := 0, slots := 0, locals := 63 } : Room) s m args below meth c H locs (0) (0) QQ (F0 m 45 ls []) := by
        intro fu
        induction fu with
        | zero => intro k hm; exact absurd hm (Nat.not_lt_zero _)
        | succ fu ih45 =>
          intro k hm45 hp45_0 H locs ls hSep hS hl
          refine lv_iload hx hb dX4_teller_45 (lv_at hl 0 rfl) ?_
          refine lv_bipush (v := (nI 18)) hx hb dX4_teller_47 (by decide) ?_
          refine n_icmp_ge (tgt := 108) hx hb (by omega) (by omega) dX4_teller_49 (by decide) (fun c49 => ?_) (fun c49 => ?_)
          · obtain rfl : k = 18 := by omega
            refine lv_iload_n hx hb dX4_teller_108 rfl (lv_at hl 5 rfl) ?_
            refine n_if_ne (tgt := 126) hx hb (by omega) dX4_teller_109 (by decide) (fun c109 => ?_) (fun c109 => ?_)
            · refine lv_iload_n hx hb dX4_teller_126 rfl (lv_at hl 5 rfl) ?_
              refine lv_iconst (v := (nI 1)) hx hb dX4_teller_127 (by decide) ?_
              refine n_icmp_ne (tgt := 135) hx hb (by omega) (by omega) dX4_teller_128 (by decide) (fun c128 => ?_) (fun c128 => ?_)
              · refine lv_iload_n hx hb dX4_teller_135 rfl (lv_at hl 5 rfl) ?_
                refine lv_iconst (v := (nI 2)) hx hb dX4_teller_136 (by decide) ?_
                refine n_icmp_ne (tgt := 155) hx hb (by omega) (by omega) dX4_teller_137 (by decide) (fun c137 => ?_) (fun c137 => ?_)
                · refine lv_iload_n hx hb dX4_teller_155 rfl (lv_at hl 5 rfl) ?_
                  refine lv_iconst (v := (nI 3)) hx hb dX4_teller_156 (by decide) ?_
                  refine n_icmp_ne (tgt := 165) hx hb (by omega) (by omega) dX4_teller_157 (by decide) (fun c157 => ?_) (fun c157 => ?_)
                  · refine lv_aload_n hx hb dX4_teller_165 rfl (lv_at hl 3 rfl) ?_
                    refine va_get (D := G.1) (ci := 3) (v := .ref aN) (C := RX4) (T := TX4) (N := 16) hx hb hts in_X4 hown hK (hSep.cel (k := 10) rfl) 0 rfl rfl 3 (by decide) (hts _ q1476) (fun _ h9 => h9) rfl dX4_teller_166 ?_
                    refine lv_iload_n hx hb dX4_teller_169 rfl (lv_at hl 4 rfl) ?_
                    have hFk_4 : ∀ q, Fz (fun _ => False) H.size q → (Fz F s.heap.size) q := fun q h => by rcases h with h | h; exact h.elim; exact Fz.new (Nat.le_trans hS.1 h)
                    have hPk_4 : Sep G.1 clA (Fz (fun _ => False) H.size) [] H := sp_nil
                    have hJk_4 := sp_nilJ (F := (fun _ => False)) hSep (fun _ => id) hFk_4
                    refine c_i (va_runS (As := [.int (nI t9)]) (rest := [.ref aN]) ⟨hx, hb, hml, hown, hts⟩ (m_X4_at l G H.size t9 ) (va_cwS 1 hts (lw_S q1584 q1585 q44 q1586) rfl rfl rfl (by decide +kernel) ⟨Nat.le_of_ble_eq_true rfl, Nat.le_of_ble_eq_true rfl⟩) (sp_preS hE hS hFk_4 hPk_4 trivial) rfl rfl hl.1 rfl (lv_room (Nat.le_of_ble_eq_true rfl)) dX4_teller_170 ⟨by first | exact Nat.le_of_ble_eq_true rfl | omega | (dsimp only; omega), by first | exact Nat.le_of_ble_eq_true rfl | omega | (dsimp only; omega)⟩) hS hFk_4 hJk_4 (fun r_5 u_6 H locs hpk_4 hSep hS hzk_4 => ?_)
                    obtain rfl : r_5 = (nI (23 + 15 * t9)) := hpk_4
                    refine W.cs (cells' := 0) (slots' := 0) rfl rfl ?_
                    have hSep : Sep G.1 clA (Fz F s.heap.size) [pts aT (.inl (G.2.1 0, 20, .inl fT)), pts aN (.inl (G.2.1 0, 89, .inl fN)), pts aL (.inl (G.2.1 0, 89, .inl fL)), pts aP (.inl (G.2.1 0, 89, .inl fP)), pts aD (.inl (G.2.1 0, 1246, .inl fD)), pts aK (.inl (G.2.1 0, 178, .inl fK)), pts aZ (.inl (G.2.1 2, 2, .inl fZ)), pts aG (.inl (G.2.1 0, 18, .inl fG)), pts aB (.inl (G.2.1 0, 5, .inl fB)), pts aS (.inl (G.2.1 0, 5, .inl fS)), pts mo (.inr (3, [.int (nI 0), .ref aT, .int (nI T.length), .ref aN, .ref aL, .ref aP, .ref aD, .int (nI hs.length), .ref aK, .ref aZ, .ref aG, .ref aB, .int (nI bl), .int bp, .ref aS, .int (nI tl)]))] H := hSep
                    refine lv_iconst (v := (nI 1)) hx hb dX4_teller_173 (by decide) ?_
                    refine n_iadd hx hb dX4_teller_174 ?_
                    refine n_iald (i := (23 + 15 * t9) + 1) hx hb hK (hSep.cel (k := 1) rfl) 0 rfl (by omega) (by omega) dX4_teller_175 ?_
                    refine n_eq (y := (g.1 (24 + 15 * t9))) (he.own (by omega) (by omega)) ?_
                    have hop : oTeller (g, hs, kp, T) (nI t9) (nI n9) = (0, (g.1 (24 + 15 * t9)), g, hs, kp, T) := by unfold oTeller; rw [if_neg (by rw [hgd.1]; decide), if_neg (by rw [hgd.2]; decide)]; refine congrArg (fun v => (0, v, _)) ?_; show telA g (nI t9).toInt.toNat (nI n9) = _; rw [nI_toInt ht92, Int.toNat_natCast]; unfold telA; rw [if_neg (fun h => c109 (nI_inj (by omega) (by decide) h)), if_neg (fun h => c128 (nI_inj (by omega) (by decide) h)), if_neg (fun h => c137 (nI_inj (by omega) (by decide) h)), if_neg (fun h => c157 (nI_inj (by omega) (by decide) h))]
                    rw [hQ]
                    exact r_i (r := (g.1 (24 + 15 * t9))) (u := ()) hx hb hr (by rw [hop]; exact fun _ => rfl) (by rw [hop]; exact mod_close (hSep.pick [10, 0, 1, 2, 3, 4, 5, 6, 7, 8, 9] rfl rfl) rfl rfl rfl hC) hS (by first | exact Nat.le_of_ble_eq_true rfl | omega | (dsimp only; omega)) (by first | exact Nat.le_of_ble_eq_true rfl | omega | (dsimp only; omega)) dX4_teller_176 hlocks
                  · refine lv_iload hx hb dX4_teller_160 (lv_at hl 1 rfl) ?_
                    refine lv_goto (tgt := 176) hx hb dX4_teller_162 (by decide) ?_
                    refine n_eq (y := (mkS (fun w => decide (w ∈ gL g t9)) 18)) (rfl) ?_
                    have hop : oTeller (g, hs, kp, T) (nI t9) (nI n9) = (0, (mkS (fun w => decide (w ∈ gL g t9)) 18), g, hs, kp, T) := by unfold oTeller; rw [if_neg (by rw [hgd.1]; decide), if_neg (by rw [hgd.2]; decide)]; refine congrArg (fun v => (0, v, _)) ?_; show telA g (nI t9).toInt.toNat (nI n9) = _; rw [nI_toInt ht92, Int.toNat_natCast]; unfold telA; rw [if_neg (fun h => c109 (nI_inj (by omega) (by decide) h)), if_neg (fun h => c128 (nI_inj (by omega) (by decide) h)), if_neg (fun h => c137 (nI_inj (by omega) (by decide) h)), if_pos (by rw [c157])]
                    rw [hQ]
                    exact r_i (r := (mkS (fun w => decide (w ∈ gL g t9)) 18)) (u := ()) hx hb hr (by rw [hop]; exact fun _ => rfl) (by rw [hop]; exact mod_close (hSep.pick [10, 0, 1, 2, 3, 4, 5, 6, 7, 8, 9] rfl rfl) rfl rfl rfl hC) hS (by first | exact Nat.le_of_ble_eq_true rfl | omega | (dsimp only; omega)) (by first | exact Nat.le_of_ble_eq_true rfl | omega | (dsimp only; omega)) dX4_teller_176 hlocks
                · refine lv_aload_n hx hb dX4_teller_140 rfl (lv_at hl 3 rfl) ?_
                  refine va_get (D := G.1) (ci := 3) (v := .ref aN) (C := RX4) (T := TX4) (N := 16) hx hb hts in_X4 hown hK (hSep.cel (k := 10) rfl) 0 rfl rfl 3 (by decide) (hts _ q1476) (fun _ h9 => h9) rfl dX4_teller_141 ?_
                  refine lv_iload_n hx hb dX4_teller_144 rfl (lv_at hl 4 rfl) ?_
                  have hFk_7 : ∀ q, Fz (fun _ => False) H.size q → (Fz F s.heap.size) q := fun q h => by rcases h with h | h; exact h.elim; exact Fz.new (Nat.le_trans hS.1 h)
                  have hPk_7 : Sep G.1 clA (Fz (fun _ => False) H.size) [] H := sp_nil
                  have hJk_7 := sp_nilJ (F := (fun _ => False)) hSep (fun _ => id) hFk_7
                  refine c_i (va_runS (As := [.int (nI t9)]) (rest := [.ref aN]) ⟨hx, hb, hml, hown, hts⟩ (m_X4_at l G H.size t9 ) (va_cwS 1 hts (lw_S q1584 q1585 q44 q1586) rfl rfl rfl (by decide +kernel) ⟨Nat.le_of_ble_eq_true rfl, Nat.le_of_ble_eq_true rfl⟩) (sp_preS hE hS hFk_7 hPk_7 trivial) rfl rfl hl.1 rfl (lv_room (Nat.le_of_ble_eq_true rfl)) dX4_teller_145 ⟨by first | exact Nat.le_of_ble_eq_true rfl | omega | (dsimp only; omega), by first | exact Nat.le_of_ble_eq_true rfl | omega | (dsimp only; omega)⟩) hS hFk_7 hJk_7 (fun r_8 u_9 H locs hpk_7 hSep hS hzk_7 => ?_)
                  obtain rfl : r_8 = (nI (23 + 15 * t9)) := hpk_7
                  refine W.cs (cells' := 0) (slots' := 0) rfl rfl ?_
                  have hSep : Sep G.1 clA (Fz F s.heap.size) [pts aT (.inl (G.2.1 0, 20, .inl fT)), pts aN (.inl (G.2.1 0, 89, .inl fN)), pts aL (.inl (G.2.1 0, 89, .inl fL)), pts aP (.inl (G.2.1 0, 89, .inl fP)), pts aD (.inl (G.2.1 0, 1246, .inl fD)), pts aK (.inl (G.2.1 0, 178, .inl fK)), pts aZ (.inl (G.2.1 2, 2, .inl fZ)), pts aG (.inl (G.2.1 0, 18, .inl fG)), pts aB (.inl (G.2.1 0, 5, .inl fB)), pts aS (.inl (G.2.1 0, 5, .inl fS)), pts mo (.inr (3, [.int (nI 0), .ref aT, .int (nI T.length), .ref aN, .ref aL, .ref aP, .ref aD, .int (nI hs.length), .ref aK, .ref aZ, .ref aG, .ref aB, .int (nI bl), .int bp, .ref aS, .int (nI tl)]))] H := hSep
                  refine lv_bipush (v := (nI 9)) hx hb dX4_teller_148 (by decide) ?_
                  refine n_iadd hx hb dX4_teller_150 ?_
                  refine n_iald (i := (23 + 15 * t9) + 9) hx hb hK (hSep.cel (k := 1) rfl) 0 rfl (by omega) (by omega) dX4_teller_151 ?_
                  refine n_eq (y := (nI ((gL g t9).length))) (he.ln (by omega) (by omega)) ?_
                  refine lv_goto (tgt := 176) hx hb dX4_teller_152 (by decide) ?_
                  refine n_eq (y := (nI ((gL g t9).length))) (rfl) ?_
                  have hop : oTeller (g, hs, kp, T) (nI t9) (nI n9) = (0, (nI ((gL g t9).length)), g, hs, kp, T) := by unfold oTeller; rw [if_neg (by rw [hgd.1]; decide), if_neg (by rw [hgd.2]; decide)]; refine congrArg (fun v => (0, v, _)) ?_; show telA g (nI t9).toInt.toNat (nI n9) = _; rw [nI_toInt ht92, Int.toNat_natCast]; unfold telA; rw [if_neg (fun h => c109 (nI_inj (by omega) (by decide) h)), if_neg (fun h => c128 (nI_inj (by omega) (by decide) h)), if_pos (by rw [c137])]
                  rw [hQ]
                  exact r_i (r := (nI ((gL g t9).length))) (u := ()) hx hb hr (by rw [hop]; exact fun _ => rfl) (by rw [hop]; exact mod_close (hSep.pick [10, 0, 1, 2, 3, 4, 5, 6, 7, 8, 9] rfl rfl) rfl rfl rfl hC) hS (by first | exact Nat.le_of_ble_eq_true rfl | omega | (dsimp only; omega)) (by first | exact Nat.le_of_ble_eq_true rfl | omega | (dsimp only; omega)) dX4_teller_176 hlocks
              · refine lv_iload_n hx hb dX4_teller_131 rfl (lv_at hl 2 rfl) ?_
                refine lv_goto (tgt := 176) hx hb dX4_teller_132 (by decide) ?_
                refine n_eq (y := (mkS (fun w => decide (w ∈ gB g t9)) 18)) (rfl) ?_
                have hop : oTeller (g, hs, kp, T) (nI t9) (nI n9) = (0, (mkS (fun w => decide (w ∈ gB g t9)) 18), g, hs, kp, T) := by unfold oTeller; rw [if_neg (by rw [hgd.1]; decide), if_neg (by rw [hgd.2]; decide)]; refine congrArg (fun v => (0, v, _)) ?_; show telA g (nI t9).toInt.toNat (nI n9) = _; rw [nI_toInt ht92, Int.toNat_natCast]; unfold telA; rw [if_neg (fun h => c109 (nI_inj (by omega) (by decide) h)), if_pos (by rw [c128])]
                rw [hQ]
                exact r_i (r := (mkS (fun w => decide (w ∈ gB g t9)) 18)) (u := ()) hx hb hr (by rw [hop]; exact fun _ => rfl) (by rw [hop]; exact mod_close (hSep.pick [10, 0, 1, 2, 3, 4, 5, 6, 7, 8, 9] rfl rfl) rfl rfl rfl hC) hS (by first | exact Nat.le_of_ble_eq_true rfl | omega | (dsimp only; omega)) (by first | exact Nat.le_of_ble_eq_true rfl | omega | (dsimp only; omega)) dX4_teller_176 hlocks
            · refine lv_aload_n hx hb dX4_teller_112 rfl (lv_at hl 3 rfl) ?_
              refine va_get (D := G.1) (ci := 3) (v := .ref aN) (C := RX4) (T := TX4) (N := 16) hx hb hts in_X4 hown hK (hSep.cel (k := 10) rfl) 0 rfl rfl 3 (by decide) (hts _ q1476) (fun _ h9 => h9) rfl dX4_teller_113 ?_
              refine lv_iload_n hx hb dX4_teller_116 rfl (lv_at hl 4 rfl) ?_
              have hFk_10 : ∀ q, Fz (fun _ => False) H.size q → (Fz F s.heap.size) q := fun q h => by rcases h with h | h; exact h.elim; exact Fz.new (Nat.le_trans hS.1 h)
              have hPk_10 : Sep G.1 clA (Fz (fun _ => False) H.size) [] H := sp_nil
              have hJk_10 := sp_nilJ (F := (fun _ => False)) hSep (fun _ => id) hFk_10
              refine c_i (va_runS (As := [.int (nI t9)]) (rest := [.ref aN]) ⟨hx, hb, hml, hown, hts⟩ (m_X4_at l G H.size t9 ) (va_cwS 1 hts (lw_S q1584 q1585 q44 q1586) rfl rfl rfl (by decide +kernel) ⟨Nat.le_of_ble_eq_true rfl, Nat.le_of_ble_eq_true rfl⟩) (sp_preS hE hS hFk_10 hPk_10 trivial) rfl rfl hl.1 rfl (lv_room (Nat.le_of_ble_eq_true rfl)) dX4_teller_117 ⟨by first | exact Nat.le_of_ble_eq_true rfl | omega | (dsimp only; omega), by first | exact Nat.le_of_ble_eq_true rfl | omega | (dsimp only; omega)⟩) hS hFk_10 hJk_10 (fun r_11 u_12 H locs hpk_10 hSep hS hzk_10 => ?_)
              obtain rfl : r_11 = (nI (23 + 15 * t9)) := hpk_10
              refine W.cs (cells' := 0) (slots' := 0) rfl rfl ?_
              have hSep : Sep G.1 clA (Fz F s.heap.size) [pts aT (.inl (G.2.1 0, 20, .inl fT)), pts aN (.inl (G.2.1 0, 89, .inl fN)), pts aL (.inl (G.2.1 0, 89, .inl fL)), pts aP (.inl (G.2.1 0, 89, .inl fP)), pts aD (.inl (G.2.1 0, 1246, .inl fD)), pts aK (.inl (G.2.1 0, 178, .inl fK)), pts aZ (.inl (G.2.1 2, 2, .inl fZ)), pts aG (.inl (G.2.1 0, 18, .inl fG)), pts aB (.inl (G.2.1 0, 5, .inl fB)), pts aS (.inl (G.2.1 0, 5, .inl fS)), pts mo (.inr (3, [.int (nI 0), .ref aT, .int (nI T.length), .ref aN, .ref aL, .ref aP, .ref aD, .int (nI hs.length), .ref aK, .ref aZ, .ref aG, .ref aB, .int (nI bl), .int bp, .ref aS, .int (nI tl)]))] H := hSep
              refine lv_iconst (v := (nI 0)) hx hb dX4_teller_120 (by decide) ?_
              refine n_iadd hx hb dX4_teller_121 ?_
              refine n_iald (i := (23 + 15 * t9) + 0) hx hb hK (hSep.cel (k := 1) rfl) 0 rfl (by omega) (by omega) dX4_teller_122 ?_
              refine n_eq (y := (g.1 (23 + 15 * t9))) (he.sc (by omega) (by omega)) ?_
              refine lv_goto (tgt := 176) hx hb dX4_teller_123 (by decide) ?_
              refine n_eq (y := (g.1 (23 + 15 * t9))) (rfl) ?_
              have hop : oTeller (g, hs, kp, T) (nI t9) (nI n9) = (0, (g.1 (23 + 15 * t9)), g, hs, kp, T) := by unfold oTeller; rw [if_neg (by rw [hgd.1]; decide), if_neg (by rw [hgd.2]; decide)]; refine congrArg (fun v => (0, v, _)) ?_; show telA g (nI t9).toInt.toNat (nI n9) = _; rw [nI_toInt ht92, Int.toNat_natCast]; unfold telA; rw [if_pos (by rw [c109])]
              rw [hQ]
              exact r_i (r := (g.1 (23 + 15 * t9))) (u := ()) hx hb hr (by rw [hop]; exact fun _ => rfl) (by rw [hop]; exact mod_close (hSep.pick [10, 0, 1, 2, 3, 4, 5, 6, 7, 8, 9] rfl rfl) rfl rfl rfl hC) hS (by first | exact Nat.le_of_ble_eq_true rfl | omega | (dsimp only; omega)) (by first | exact Nat.le_of_ble_eq_true rfl | omega | (dsimp only; omega)) dX4_teller_176 hlocks
          · have L74 : ∀ (x6 : Int32) , (x6 = if decide (k ∈ gB g t9) then nI 1 <<< (nI k &&& 31) else nI 0) → ∀ (H : Heap) (locs : List Loc) (ls : Array Slot), Sep G.1 clA (Fz F s.heap.size) [pts aT (.inl (G.2.1 0, 20, .inl fT)), pts aN (.inl (G.2.1 0, 89, .inl fN)), pts aL (.inl (G.2.1 0, 89, .inl fL)), pts aP (.inl (G.2.1 0, 89, .inl fP)), pts aD (.inl (G.2.1 0, 1246, .inl fD)), pts aK (.inl (G.2.1 0, 178, .inl fK)), pts aZ (.inl (G.2.1 2, 2, .inl fZ)), pts aG (.inl (G.2.1 0, 18, .inl fG)), pts aB (.inl (G.2.1 0, 5, .inl fB)), pts aS (.inl (G.2.1 0, 5, .inl fS)), pts mo (.inr (3, [.int (nI 0), .ref aT, .int (nI T.length), .ref aN, .ref aL, .ref aP, .ref aD, .int (nI hs.length), .ref aK, .ref aZ, .ref aG, .ref aB, .int (nI bl), .int bp, .ref aS, .int (nI tl)]))] H → va_S (Fz F s.heap.size) s.heap H locs → lv_has ls 6 [(5, .int (nI k)), (4, .int (mkS (fun w => decide (w ∈ gL g t9)) k)), (3, .int (mkS (fun w => decide (w ∈ gB g t9)) k)), (0, .ref mo), (1, .int (nI t9)), (2, .int (nI n9))] → W p l e ({ frames := 2, cells := 0, slots := 0, locals := 63 } : Room) s m args below meth c H locs (0) (0) QQ (F0 m 74 ls [.int x6, .int (mkS (fun w => decide (w ∈ gB g t9)) k)]) := by
              intro x6 hp74_0 H locs ls hSep hS hl
              refine lv_ior hx hb dX4_teller_74 ?_
              refine n_eq (y := (mkS (fun w => decide (w ∈ gB g t9)) (k + 1))) (by rw [hp74_0]; rfl) ?_
              refine lv_istore_n (lv' := [(3, .int (mkS (fun w => decide (w ∈ gB g t9)) (k + 1))), (5, .int (nI k)), (4, .int (mkS (fun w => decide (w ∈ gL g t9)) k)), (0, .ref mo), (1, .int (nI t9)), (2, .int (nI n9))]) hx hb dX4_teller_75 rfl hl (by decide) rfl (fun ls hl => ?_)
              have L99 : ∀ (x7 : Int32) , (x7 = if decide (k ∈ gL g t9) then nI 1 <<< (nI k &&& 31) else nI 0) → ∀ (H : Heap) (locs : List Loc) (ls : Array Slot), Sep G.1 clA (Fz F s.heap.size) [pts aT (.inl (G.2.1 0, 20, .inl fT)), pts aN (.inl (G.2.1 0, 89, .inl fN)), pts aL (.inl (G.2.1 0, 89, .inl fL)), pts aP (.inl (G.2.1 0, 89, .inl fP)), pts aD (.inl (G.2.1 0, 1246, .inl fD)), pts aK (.inl (G.2.1 0, 178, .inl fK)), pts aZ (.inl (G.2.1 2, 2, .inl fZ)), pts aG (.inl (G.2.1 0, 18, .inl fG)), pts aB (.inl (G.2.1 0, 5, .inl fB)), pts aS (.inl (G.2.1 0, 5, .inl fS)), pts mo (.inr (3, [.int (nI 0), .ref aT, .int (nI T.length), .ref aN, .ref aL, .ref aP, .ref aD, .int (nI hs.length), .ref aK, .ref aZ, .ref aG, .ref aB, .int (nI bl), .int bp, .ref aS, .int (nI tl)]))] H → va_S (Fz F s.heap.size) s.heap H locs → lv_has ls 6 [(3, .int (mkS (fun w => decide (w ∈ gB g t9)) (k + 1))), (5, .int (nI k)), (4, .int (mkS (fun w => decide (w ∈ gL g t9)) k)), (0, .ref mo), (1, .int (nI t9)), (2, .int (nI n9))] → W p l e ({ frames := 2, cells := 0, slots := 0, locals := 63 } : Room) s m args below meth c H locs (0) (0) QQ (F0 m 99 ls [.int x7, .int (mkS (fun w => decide (w ∈ gL g t9)) k)]) := by
                intro x7 hp99_0 H locs ls hSep hS hl
                refine lv_ior hx hb dX4_teller_99 ?_
                refine n_eq (y := (mkS (fun w => decide (w ∈ gL g t9)) (k + 1))) (by rw [hp99_0]; rfl) ?_
                refine lv_istore (lv' := [(4, .int (mkS (fun w => decide (w ∈ gL g t9)) (k + 1))), (3, .int (mkS (fun w => decide (w ∈ gB g t9)) (k + 1))), (5, .int (nI k)), (0, .ref mo), (1, .int (nI t9)), (2, .int (nI n9))]) hx hb dX4_teller_100 hl (by decide) rfl (fun ls hl => ?_)
                refine lv_iinc (v := (nI (k + 1))) (lv' := [(5, .int (nI (k + 1))), (4, .int (mkS (fun w => decide (w ∈ gL g t9)) (k + 1))), (3, .int (mkS (fun w => decide (w ∈ gB g t9)) (k + 1))), (0, .ref mo), (1, .int (nI t9)), (2, .int (nI n9))]) hx hb dX4_teller_102 hl (k := 2) rfl (nI_inc k 1) (by decide) rfl (fun ls hl => ?_)
                refine lv_goto (tgt := 45) hx hb dX4_teller_105 (by decide) ?_
                exact ih45 (k + 1) (by omega) (by omega) _ _ _ hSep hS (lv_sub hl [0, 1, 2, 3, 4, 5] rfl)
              refine lv_iload hx hb dX4_teller_76 (lv_at hl 2 rfl) ?_
              refine lv_aload_n hx hb dX4_teller_78 rfl (lv_at hl 3 rfl) ?_
              refine va_get (D := G.1) (ci := 3) (v := .ref aN) (C := RX4) (T := TX4) (N := 16) hx hb hts in_X4 hown hK (hSep.cel (k := 10) rfl) 0 rfl rfl 3 (by decide) (hts _ q1476) (fun _ h9 => h9) rfl dX4_teller_79 ?_
              refine lv_iload_n hx hb dX4_teller_82 rfl (lv_at hl 4 rfl) ?_
              refine lv_iload hx hb dX4_teller_83 (lv_at hl 1 rfl) ?_
              have hFk_13 : ∀ q, Fz (fun _ => False) H.size q → (Fz F s.heap.size) q := fun q h => by rcases h with h | h; exact h.elim; exact Fz.new (Nat.le_trans hS.1 h)
              have hPk_13 : Sep G.1 clA (Fz (fun _ => False) H.size) [] H := sp_nil
              have hJk_13 := sp_nilJ (F := (fun _ => False)) hSep (fun _ => id) hFk_13
              refine c_i (va_runS (As := [.ref aN, .int (nI t9), .int (nI k)]) (rest := [.int (mkS (fun w => decide (w ∈ gL g t9)) k)]) ⟨hx, hb, hml, hown, hts⟩ (m_X4_wasTold l G H.size aN fN g t9 k (by first | assumption | omega) (by first | assumption | omega) (by first | assumption | omega) (by first | assumption | omega)) (va_cwS 3 hts (lw_S q1587 q1588 q44 q1589) rfl rfl rfl (by decide +kernel) ⟨Nat.le_of_ble_eq_true rfl, Nat.le_of_ble_eq_true rfl⟩) (sp_preS hE hS hFk_13 hPk_13 (hSep.cel (k := 1) rfl)) rfl rfl hl.1 rfl (lv_room (Nat.le_of_ble_eq_true rfl)) dX4_teller_85 ⟨by first | exact Nat.le_of_ble_eq_true rfl | omega | (dsimp only; omega), by first | exact Nat.le_of_ble_eq_true rfl | omega | (dsimp only; omega)⟩) hS hFk_13 hJk_13 (fun r_14 u_15 H locs hpk_13 hSep hS hzk_13 => ?_)
              obtain rfl : r_14 = (bI (decide (k ∈ gL g t9))) := hpk_13
              refine W.cs (cells' := 0) (slots' := 0) rfl rfl ?_
              have hSep : Sep G.1 clA (Fz F s.heap.size) [pts aT (.inl (G.2.1 0, 20, .inl fT)), pts aN (.inl (G.2.1 0, 89, .inl fN)), pts aL (.inl (G.2.1 0, 89, .inl fL)), pts aP (.inl (G.2.1 0, 89, .inl fP)), pts aD (.inl (G.2.1 0, 1246, .inl fD)), pts aK (.inl (G.2.1 0, 178, .inl fK)), pts aZ (.inl (G.2.1 2, 2, .inl fZ)), pts aG (.inl (G.2.1 0, 18, .inl fG)), pts aB (.inl (G.2.1 0, 5, .inl fB)), pts aS (.inl (G.2.1 0, 5, .inl fS)), pts mo (.inr (3, [.int (nI 0), .ref aT, .int (nI T.length), .ref aN, .ref aL, .ref aP, .ref aD, .int (nI hs.length), .ref aK, .ref aZ, .ref aG, .ref aB, .int (nI bl), .int bp, .ref aS, .int (nI tl)]))] H := hSep
              refine b_if_eq (tgt := 98) hx hb dX4_teller_88 (by decide) (fun c88 => ?_) (fun c88 => ?_)
              · refine lv_iconst (v := (nI 0)) hx hb dX4_teller_98 (by decide) ?_
                exact L99 (nI 0) ((if_neg (by rw [c88]; decide)).symm) _ _ _ hSep hS (lv_sub hl [0, 1, 2, 3, 4, 5] rfl)
              · refine lv_iconst (v := (nI 1)) hx hb dX4_teller_91 (by decide) ?_
                refine lv_iload hx hb dX4_teller_92 (lv_at hl 1 rfl) ?_
                refine lv_ishl hx hb dX4_teller_94 ?_
                refine lv_goto (tgt := 99) hx hb dX4_teller_95 (by decide) ?_
                exact L99 ((nI 1) <<< ((nI k) &&& 31)) ((if_pos c88).symm) _ _ _ hSep hS (lv_sub hl [0, 1, 2, 3, 4, 5] rfl)
            refine lv_iload_n hx hb dX4_teller_52 rfl (lv_at hl 2 rfl) ?_
            refine lv_aload_n hx hb dX4_teller_53 rfl (lv_at hl 3 rfl) ?_
            refine va_get (D := G.1) (ci := 3) (v := .ref aN) (C := RX4) (T := TX4) (N := 16) hx hb hts in_X4 hown hK (hSep.cel (k := 10) rfl) 0 rfl rfl 3 (by decide) (hts _ q1476) (fun _ h9 => h9) rfl dX4_teller_54 ?_
            refine lv_iload_n hx hb dX4_teller_57 rfl (lv_at hl 4 rfl) ?_
            refine lv_iload hx hb dX4_teller_58 (lv_at hl 0 rfl) ?_
            have hFk_16 : ∀ q, Fz (fun _ => False) H.size q → (Fz F s.heap.size) q := fun q h => by rcases h with h | h; exact h.elim; exact Fz.new (Nat.le_trans hS.1 h)
            have hPk_16 : Sep G.1 clA (Fz (fun _ => False) H.size) [] H := sp_nil
            have hJk_16 := sp_nilJ (F := (fun _ => False)) hSep (fun _ => id) hFk_16
            refine c_i (va_runS (As := [.ref aN, .int (nI t9), .int (nI k)]) (rest := [.int (mkS (fun w => decide (w ∈ gB g t9)) k)]) ⟨hx, hb, hml, hown, hts⟩ (m_X4_isForbidden l G H.size aN fN g t9 k (by first | assumption | omega) (by first | assumption | omega) (by first | assumption | omega) (by first | assumption | omega)) (va_cwS 3 hts (lw_S q1581 q1582 q44 q1583) rfl rfl rfl (by decide +kernel) ⟨Nat.le_of_ble_eq_true rfl, Nat.le_of_ble_eq_true rfl⟩) (sp_preS hE hS hFk_16 hPk_16 (hSep.cel (k := 1) rfl)) rfl rfl hl.1 rfl (lv_room (Nat.le_of_ble_eq_true rfl)) dX4_teller_60 ⟨by first | exact Nat.le_of_ble_eq_true rfl | omega | (dsimp only; omega), by first | exact Nat.le_of_ble_eq_true rfl | omega | (dsimp only; omega)⟩) hS hFk_16 hJk_16 (fun r_17 u_18 H locs hpk_16 hSep hS hzk_16 => ?_)
            obtain rfl : r_17 = (bI (decide (k ∈ gB g t9))) := hpk_16
            refine W.cs (cells' := 0) (slots' := 0) rfl rfl ?_
            have hSep : Sep G.1 clA (Fz F s.heap.size) [pts aT (.inl (G.2.1 0, 20, .inl fT)), pts aN (.inl (G.2.1 0, 89, .inl fN)), pts aL (.inl (G.2.1 0, 89, .inl fL)), pts aP (.inl (G.2.1 0, 89, .inl fP)), pts aD (.inl (G.2.1 0, 1246, .inl fD)), pts aK (.inl (G.2.1 0, 178, .inl fK)), pts aZ (.inl (G.2.1 2, 2, .inl fZ)), pts aG (.inl (G.2.1 0, 18, .inl fG)), pts aB (.inl (G.2.1 0, 5, .inl fB)), pts aS (.inl (G.2.1 0, 5, .inl fS)), pts mo (.inr (3, [.int (nI 0), .ref aT, .int (nI T.length), .ref aN, .ref aL, .ref aP, .ref aD, .int (nI hs.length), .ref aK, .ref aZ, .ref aG, .ref aB, .int (nI bl), .int bp, .ref aS, .int (nI tl)]))] H := hSep
            refine b_if_eq (tgt := 73) hx hb dX4_teller_63 (by decide) (fun c63 => ?_) (fun c63 => ?_)
            · refine lv_iconst (v := (nI 0)) hx hb dX4_teller_73 (by decide) ?_
              exact L74 (nI 0) ((if_neg (by rw [c63]; decide)).symm) _ _ _ hSep hS (lv_sub hl [0, 1, 2, 3, 4, 5] rfl)
            · refine lv_iconst (v := (nI 1)) hx hb dX4_teller_66 (by decide) ?_
              refine lv_iload hx hb dX4_teller_67 (lv_at hl 0 rfl) ?_
              refine lv_ishl hx hb dX4_teller_69 ?_
              refine lv_goto (tgt := 74) hx hb dX4_teller_70 (by decide) ?_
              exact L74 ((nI 1) <<< ((nI k) &&& 31)) ((if_pos c63).symm) _ _ _ hSep hS (lv_sub hl [0, 1, 2, 3, 4, 5] rfl)
      exact L45 (18 - 0 + 1) 0 (Nat.lt_succ_self _) (by omega) _ _ _ hSep hS (lv_sub hl [0, 1, 2, 3, 4, 5] rfl)
    · obtain ⟨hx1, hop⟩ := hrf.resolve_right (fun h => absurd (of_decide_eq_true c32) (by rw [h.1]; decide))
      refine lv_iconst (v := (nI 0)) hx hb dX4_teller_35 (by decide) ?_
      rw [hQ]
      exact r_i (r := (nI 0)) (u := ()) hx hb hr (by rw [hop]; exact fun h => absurd h hx1) (by rw [hop]; exact mod_close (hSep.pick [10, 0, 1, 2, 3, 4, 5, 6, 7, 8, 9] rfl rfl) rfl rfl rfl hC) hS (by first | exact Nat.le_of_ble_eq_true rfl | omega | (dsimp only; omega)) (by first | exact Nat.le_of_ble_eq_true rfl | omega | (dsimp only; omega)) dX4_teller_36 hlocks
  refine lv_aload_n hx hb dX4_teller_0 rfl (lv_at hl 0 rfl) ?_
  refine lv_iload_n hx hb dX4_teller_1 rfl (lv_at hl 1 rfl) ?_
  have hFk_19 : ∀ q, Fz (fun _ => False) s.heap.size q → (Fz F s.heap.size) q := fun q h => by rcases h with h | h; exact h.elim; exact Fz.new (Nat.le_trans hS.1 h)
  have hPk_19 : Sep G.1 clA (Fz (fun _ => False) s.heap.size) [] s.heap := sp_nil
  have hJk_19 := sp_nilJ (F := (fun _ => False)) hSep (fun _ => id) hFk_19
  refine c_i (va_runS (As := [.int t]) (rest := [.ref mo]) ⟨hx, hb, hml, hown, hts⟩ (m_X4_isTeller l G s.heap.size t ) (va_cwS 1 hts (lw_S q1577 q1578 q44 q1579) rfl rfl rfl (by decide +kernel) ⟨Nat.le_of_ble_eq_true rfl, Nat.le_of_ble_eq_true rfl⟩) (sp_preS hE hS hFk_19 hPk_19 trivial) rfl rfl hl.1 rfl (lv_room (Nat.le_of_ble_eq_true rfl)) dX4_teller_2 ⟨by first | exact Nat.le_of_ble_eq_true rfl | omega | (dsimp only; omega), by first | exact Nat.le_of_ble_eq_true rfl | omega | (dsimp only; omega)⟩) hS hFk_19 hJk_19 (fun r_20 u_21 H locs hpk_19 hSep hS hzk_19 => ?_)
  obtain rfl : r_20 = (bI (inR t.toInt 0 1)) := hpk_19
  refine W.cs (cells' := 0) (slots' := 0) rfl rfl ?_
  have hSep : Sep G.1 clA (Fz F s.heap.size) [pts mo (.inr (3, [.int rf, .ref aT, .int (nI T.length), .ref aN, .ref aL, .ref aP, .ref aD, .int (nI hs.length), .ref aK, .ref aZ, .ref aG, .ref aB, .int (nI bl), .int bp, .ref aS, .int (nI tl)])), pts aT (.inl (G.2.1 0, 20, .inl fT)), pts aN (.inl (G.2.1 0, 89, .inl fN)), pts aL (.inl (G.2.1 0, 89, .inl fL)), pts aP (.inl (G.2.1 0, 89, .inl fP)), pts aD (.inl (G.2.1 0, 1246, .inl fD)), pts aK (.inl (G.2.1 0, 178, .inl fK)), pts aZ (.inl (G.2.1 2, 2, .inl fZ)), pts aG (.inl (G.2.1 0, 18, .inl fG)), pts aB (.inl (G.2.1 0, 5, .inl fB)), pts aS (.inl (G.2.1 0, 5, .inl fS))] H := hSep
  refine b_if_ne (tgt := 12) hx hb dX4_teller_5 (by decide) (fun c5 => ?_) (fun c5 => ?_)
  · refine lv_iload_n hx hb dX4_teller_12 rfl (lv_at hl 2 rfl) ?_
    refine lv_i2l hx hb dX4_teller_13 rfl ?_
    refine lv_lconst (v := 0) hx hb dX4_teller_14 (by decide) ?_
    refine lv_ldc2 (v := 4) hx hb hown (hts _ q1580) dX4_teller_15 ?_
    have hFk_22 : ∀ q, Fz (fun _ => False) H.size q → (Fz F s.heap.size) q := fun q h => by rcases h with h | h; exact h.elim; exact Fz.new (Nat.le_trans hS.1 h)
    have hPk_22 : Sep G.1 clA (Fz (fun _ => False) H.size) [] H := sp_nil
    have hJk_22 := sp_nilJ (F := (fun _ => False)) hSep (fun _ => id) hFk_22
    refine c_i (va_runS (As := [.long x.toInt64, .long (0 : Int64), .long (4 : Int64)]) (rest := [.ref mo]) ⟨hx, hb, hml, hown, hts⟩ (m_X4_in l G H.size x.toInt64 (0 : Int64) (4 : Int64) ) (va_cwS 3 hts (lw_S q1532 q1533 q44 q1534) rfl rfl rfl (by decide +kernel) ⟨Nat.le_of_ble_eq_true rfl, Nat.le_of_ble_eq_true rfl⟩) (sp_preS hE hS hFk_22 hPk_22 trivial) rfl rfl hl.1 rfl (lv_room (Nat.le_of_ble_eq_true rfl)) dX4_teller_18 ⟨by first | exact Nat.le_of_ble_eq_true rfl | omega | (dsimp only; omega), by first | exact Nat.le_of_ble_eq_true rfl | omega | (dsimp only; omega)⟩) hS hFk_22 hJk_22 (fun r_23 u_24 H locs hpk_22 hSep hS hzk_22 => ?_)
    obtain rfl : r_23 = (bI (inR x.toInt64.toInt (0 : Int64).toInt (4 : Int64).toInt)) := hpk_22
    refine W.cs (cells' := 0) (slots' := 0) rfl rfl ?_
    have hSep : Sep G.1 clA (Fz F s.heap.size) [pts mo (.inr (3, [.int rf, .ref aT, .int (nI T.length), .ref aN, .ref aL, .ref aP, .ref aD, .int (nI hs.length), .ref aK, .ref aZ, .ref aG, .ref aB, .int (nI bl), .int bp, .ref aS, .int (nI tl)])), pts aT (.inl (G.2.1 0, 20, .inl fT)), pts aN (.inl (G.2.1 0, 89, .inl fN)), pts aL (.inl (G.2.1 0, 89, .inl fL)), pts aP (.inl (G.2.1 0, 89, .inl fP)), pts aD (.inl (G.2.1 0, 1246, .inl fD)), pts aK (.inl (G.2.1 0, 178, .inl fK)), pts aZ (.inl (G.2.1 2, 2, .inl fZ)), pts aG (.inl (G.2.1 0, 18, .inl fG)), pts aB (.inl (G.2.1 0, 5, .inl fB)), pts aS (.inl (G.2.1 0, 5, .inl fS))] H := hSep
    refine n_eq (y := (bI (inR x.toInt 0 4))) (by rw [Int32.toInt_toInt64]; rfl) ?_
    refine b_if_eq (tgt := 28) hx hb dX4_teller_21 (by decide) (fun c21 => ?_) (fun c21 => ?_)
    · refine lv_iconst (v := (nI 2)) hx hb dX4_teller_28 (by decide) ?_
      exact L29 2 (Or.inl ⟨by decide, by unfold oTeller; rw [if_neg (by rw [c5]; decide), if_pos c21]⟩) (by decide) _ _ _ hSep hS (lv_sub hl [0, 1, 2] rfl)
    · refine lv_iconst (v := (nI 0)) hx hb dX4_teller_24 (by decide) ?_
      refine lv_goto (tgt := 29) hx hb dX4_teller_25 (by decide) ?_
      exact L29 0 (Or.inr ⟨rfl, ⟨c5, c21⟩⟩) (by decide) _ _ _ hSep hS (lv_sub hl [0, 1, 2] rfl)
  · refine lv_iconst (v := (nI 1)) hx hb dX4_teller_8 (by decide) ?_
    refine lv_goto (tgt := 29) hx hb dX4_teller_9 (by decide) ?_
    exact L29 1 (Or.inl ⟨by decide, by unfold oTeller; rw [if_pos c5]⟩) (by decide) _ _ _ hSep hS (lv_sub hl [0, 1, 2] rfl)

set_option maxHeartbeats 600000 in
set_option maxRecDepth 100000 in
theorem m_X4_forbidden (l : Launch) (G : EVT) (F : Nat → Prop) (sz : Nat) (mo : Nat) (rf : Int32) (σ : MS) (t : Int32) (k : Int32)  : Met l yX4_forbidden (ws_ yX4_forbidden cX4_forbidden 3 (some .int)) ({ frames := 2, cells := 0, slots := 0, locals := 60 } : Room) (SPc G F sz [.ref mo, .int t, .int k] [modA G mo rf σ] (fun _ => True)) (SQi G F sz (fun (r : Int32) (u : Unit) => (oForbidden σ t k).1 = 0 → r = (oForbidden σ t k).2.1) (fun (u : Unit) => [modA G mo (nI (oForbidden σ t k).1) (oForbidden σ t k).2.2])) (0) (0) (Fz F sz) := by
  refine sp_of RX4 (by decide) rfl (Nat.le_of_ble_eq_true rfl) ?_
  intro p e s m args below meth c ls QQ hx hb hr hts hown hlocks hml hnm hsz hSep hΦ hE hS hl hQ
  subst hsz
  have hK := hE.1
  have hl : lv_has ls 3 [(0, .ref mo), (1, .int t), (2, .int k)] := hl
  obtain ⟨g, hs, kp, T⟩ := σ
  obtain ⟨aT, aN, aL, aP, aD, aK, aZ, aG, aB, aS, bl, bp, tl, fT, fN, fL, fP, fD, fK, fZ, fG, fB, fS, hC, hSep⟩ := mod_unpk hSep
  have hg : gV g := hC.1.1
  have ho : gOk g := hC.1.1.1
  have he : Enc fN g := hC.1.2
  have hT : Pre fT T := hC.2.2.2.1
  have hT20 : T.length ≤ 20 := hC.2.2.2.2.1
  have hT256 : ∀ w ∈ T, w < 256 := hC.2.2.2.2.2
  have hD14 : hs.length ≤ 14 := hC.2.1.1
  have L21 : ∀ (x9 : Nat) , ((x9 ≠ 0 ∧ oForbidden (g, hs, kp, T) t k = (x9, 0, (g, hs, kp, T))) ∨ (x9 = 0 ∧ (inR t.toInt 0 1 = true ∧ ¬ k < 0))) → (x9 < 3) → ∀ (H : Heap) (locs : List Loc) (ls : Array Slot), Sep G.1 clA (Fz F s.heap.size) [pts mo (.inr (3, [.int rf, .ref aT, .int (nI T.length), .ref aN, .ref aL, .ref aP, .ref aD, .int (nI hs.length), .ref aK, .ref aZ, .ref aG, .ref aB, .int (nI bl), .int bp, .ref aS, .int (nI tl)])), pts aT (.inl (G.2.1 0, 20, .inl fT)), pts aN (.inl (G.2.1 0, 89, .inl fN)), pts aL (.inl (G.2.1 0, 89, .inl fL)), pts aP (.inl (G.2.1 0, 89, .inl fP)), pts aD (.inl (G.2.1 0, 1246, .inl fD)), pts aK (.inl (G.2.1 0, 178, .inl fK)), pts aZ (.inl (G.2.1 2, 2, .inl fZ)), pts aG (.inl (G.2.1 0, 18, .inl fG)), pts aB (.inl (G.2.1 0, 5, .inl fB)), pts aS (.inl (G.2.1 0, 5, .inl fS))] H → va_S (Fz F s.heap.size) s.heap H locs → lv_has ls 3 [(0, .ref mo), (1, .int t), (2, .int k)] → W p l e ({ frames := 2, cells := 0, slots := 0, locals := 60 } : Room) s m args below meth c H locs (0) (0) QQ (F0 m 21 ls [.int (nI x9), .ref mo]) := by
    intro x9 hrf hx9 H locs ls hSep hS hl
    obtain ⟨Fk_1, hFk_1, hPk_1, hJk_1⟩ := hSep.cut (Pc := [pts mo (.inr (3, [.int rf, .ref aT, .int (nI T.length), .ref aN, .ref aL, .ref aP, .ref aD, .int (nI hs.length), .ref aK, .ref aZ, .ref aG, .ref aB, .int (nI bl), .int bp, .ref aS, .int (nI tl)]))]) (Pr := [pts aT (.inl (G.2.1 0, 20, .inl fT)), pts aN (.inl (G.2.1 0, 89, .inl fN)), pts aL (.inl (G.2.1 0, 89, .inl fL)), pts aP (.inl (G.2.1 0, 89, .inl fP)), pts aD (.inl (G.2.1 0, 1246, .inl fD)), pts aK (.inl (G.2.1 0, 178, .inl fK)), pts aZ (.inl (G.2.1 2, 2, .inl fZ)), pts aG (.inl (G.2.1 0, 18, .inl fG)), pts aB (.inl (G.2.1 0, 5, .inl fB)), pts aS (.inl (G.2.1 0, 5, .inl fS))]) (fun q h => Fz.new (Nat.le_trans hS.1 h)) [0] [1, 2, 3, 4, 5, 6, 7, 8, 9, 10] rfl rfl rfl rfl (by decide)
    refine c_i (va_runV (As := [.int (nI x9)]) (rest := []) ⟨hx, hb, hml, hown, hts⟩ (m_X4_refused l G Fk_1 H.size mo rf aT T.length aN aL aP aD hs.length aK aZ aG aB bl bp aS tl x9 (by omega)) (cwV 1 hts (lw_V q1535 q1537 qs21 q44 q1538) rfl rfl rfl (by decide +kernel) ⟨Nat.le_of_ble_eq_true rfl, Nat.le_of_ble_eq_true rfl⟩) (sp_preV hE hS hFk_1 hPk_1 trivial (sp_recv (ci := 3) hK (hSep.cel (k := 0) rfl) rfl)) rfl rfl hl.1 rfl (lv_room (Nat.le_of_ble_eq_true rfl)) dX4_forbidden_21 ⟨by first | exact Nat.le_of_ble_eq_true rfl | omega | (dsimp only; omega), by first | exact Nat.le_of_ble_eq_true rfl | omega | (dsimp only; omega)⟩) hS hFk_1 hJk_1 (fun r_2 u_3 H locs hpk_1 hSep hS hzk_1 => ?_)
    obtain rfl : r_2 = (bI (decide (0 < x9))) := hpk_1
    refine W.cs (cells' := 0) (slots' := 0) rfl rfl ?_
    have hSep : Sep G.1 clA (Fz F s.heap.size) [pts aT (.inl (G.2.1 0, 20, .inl fT)), pts aN (.inl (G.2.1 0, 89, .inl fN)), pts aL (.inl (G.2.1 0, 89, .inl fL)), pts aP (.inl (G.2.1 0, 89, .inl fP)), pts aD (.inl (G.2.1 0, 1246, .inl fD)), pts aK (.inl (G.2.1 0, 178, .inl fK)), pts aZ (.inl (G.2.1 2, 2, .inl fZ)), pts aG (.inl (G.2.1 0, 18, .inl fG)), pts aB (.inl (G.2.1 0, 5, .inl fB)), pts aS (.inl (G.2.1 0, 5, .inl fS)), pts mo (.inr (3, [.int (nI x9), .ref aT, .int (nI T.length), .ref aN, .ref aL, .ref aP, .ref aD, .int (nI hs.length), .ref aK, .ref aZ, .ref aG, .ref aB, .int (nI bl), .int bp, .ref aS, .int (nI tl)]))] H := hSep
    refine b_if_eq (tgt := 29) hx hb dX4_forbidden_24 (by decide) (fun c24 => ?_) (fun c24 => ?_)
    · obtain ⟨hx0, hgd⟩ := hrf.resolve_left (fun h => h.1 (by have := of_decide_eq_false c24; omega))
      subst hx0
      obtain ⟨t9, ht91, ht92, rfl⟩ := inR_n (n := 1) hgd.1
      obtain ⟨k9, hk92, rfl⟩ := nI_oZ hgd.2
      refine lv_iload_n hx hb dX4_forbidden_29 rfl (lv_at hl 2 rfl) ?_
      refine lv_aload_n hx hb dX4_forbidden_30 rfl (lv_at hl 0 rfl) ?_
      refine va_get (D := G.1) (ci := 3) (v := .ref aN) (C := RX4) (T := TX4) (N := 16) hx hb hts in_X4 hown hK (hSep.cel (k := 10) rfl) 0 rfl rfl 3 (by decide) (hts _ q1476) (fun _ h9 => h9) rfl dX4_forbidden_31 ?_
      refine lv_iload_n hx hb dX4_forbidden_34 rfl (lv_at hl 1 rfl) ?_
      have hFk_4 : ∀ q, Fz (fun _ => False) H.size q → (Fz F s.heap.size) q := fun q h => by rcases h with h | h; exact h.elim; exact Fz.new (Nat.le_trans hS.1 h)
      have hPk_4 : Sep G.1 clA (Fz (fun _ => False) H.size) [] H := sp_nil
      have hJk_4 := sp_nilJ (F := (fun _ => False)) hSep (fun _ => id) hFk_4
      refine c_i (va_runS (As := [.int (nI t9)]) (rest := [.ref aN, .int (nI k9)]) ⟨hx, hb, hml, hown, hts⟩ (m_X4_at l G H.size t9 ) (va_cwS 1 hts (lw_S q1584 q1585 q44 q1586) rfl rfl rfl (by decide +kernel) ⟨Nat.le_of_ble_eq_true rfl, Nat.le_of_ble_eq_true rfl⟩) (sp_preS hE hS hFk_4 hPk_4 trivial) rfl rfl hl.1 rfl (lv_room (Nat.le_of_ble_eq_true rfl)) dX4_forbidden_35 ⟨by first | exact Nat.le_of_ble_eq_true rfl | omega | (dsimp only; omega), by first | exact Nat.le_of_ble_eq_true rfl | omega | (dsimp only; omega)⟩) hS hFk_4 hJk_4 (fun r_5 u_6 H locs hpk_4 hSep hS hzk_4 => ?_)
      obtain rfl : r_5 = (nI (23 + 15 * t9)) := hpk_4
      refine W.cs (cells' := 0) (slots' := 0) rfl rfl ?_
      have hSep : Sep G.1 clA (Fz F s.heap.size) [pts aT (.inl (G.2.1 0, 20, .inl fT)), pts aN (.inl (G.2.1 0, 89, .inl fN)), pts aL (.inl (G.2.1 0, 89, .inl fL)), pts aP (.inl (G.2.1 0, 89, .inl fP)), pts aD (.inl (G.2.1 0, 1246, .inl fD)), pts aK (.inl (G.2.1 0, 178, .inl fK)), pts aZ (.inl (G.2.1 2, 2, .inl fZ)), pts aG (.inl (G.2.1 0, 18, .inl fG)), pts aB (.inl (G.2.1 0, 5, .inl fB)), pts aS (.inl (G.2.1 0, 5, .inl fS)), pts mo (.inr (3, [.int (nI 0), .ref aT, .int (nI T.length), .ref aN, .ref aL, .ref aP, .ref aD, .int (nI hs.length), .ref aK, .ref aZ, .ref aG, .ref aB, .int (nI bl), .int bp, .ref aS, .int (nI tl)]))] H := hSep
      refine lv_iconst (v := (nI 2)) hx hb dX4_forbidden_38 (by decide) ?_
      refine n_iadd hx hb dX4_forbidden_39 ?_
      refine n_iald (i := (23 + 15 * t9) + 2) hx hb hK (hSep.cel (k := 1) rfl) 0 rfl (by omega) (by omega) dX4_forbidden_40 ?_
      refine n_eq (y := (nI ((gB g t9).length))) (he.bn (by omega) (by omega)) ?_
      refine n_icmp_ge (tgt := 60) hx hb (by have := (gB_ok ho (t := t9) (by omega)).1; omega) (by have := (gB_ok ho (t := t9) (by omega)).1; omega) dX4_forbidden_41 (by decide) (fun c41 => ?_) (fun c41 => ?_)
      · refine lv_iconst (v := (-1)) hx hb dX4_forbidden_60 (by decide) ?_
        have hop : oForbidden (g, hs, kp, T) (nI t9) (nI k9) = (0, (-1), g, hs, kp, T) := by unfold oForbidden; rw [if_neg (by rw [hgd.1]; decide), if_neg hgd.2, nI_toInt ht92, Int.toNat_natCast, nI_toInt hk92, Int.toNat_natCast]; refine congrArg (fun v => (0, v, _)) ?_; exact if_neg (show ¬ k9 < (gB g t9).length by omega)
        rw [hQ]
        exact r_i (r := (-1)) (u := ()) hx hb hr (by rw [hop]; exact fun _ => rfl) (by rw [hop]; exact mod_close (hSep.pick [10, 0, 1, 2, 3, 4, 5, 6, 7, 8, 9] rfl rfl) rfl rfl rfl hC) hS (by first | exact Nat.le_of_ble_eq_true rfl | omega | (dsimp only; omega)) (by first | exact Nat.le_of_ble_eq_true rfl | omega | (dsimp only; omega)) dX4_forbidden_61 hlocks
      · refine lv_aload_n hx hb dX4_forbidden_44 rfl (lv_at hl 0 rfl) ?_
        refine va_get (D := G.1) (ci := 3) (v := .ref aN) (C := RX4) (T := TX4) (N := 16) hx hb hts in_X4 hown hK (hSep.cel (k := 10) rfl) 0 rfl rfl 3 (by decide) (hts _ q1476) (fun _ h9 => h9) rfl dX4_forbidden_45 ?_
        refine lv_iload_n hx hb dX4_forbidden_48 rfl (lv_at hl 1 rfl) ?_
        have hFk_7 : ∀ q, Fz (fun _ => False) H.size q → (Fz F s.heap.size) q := fun q h => by rcases h with h | h; exact h.elim; exact Fz.new (Nat.le_trans hS.1 h)
        have hPk_7 : Sep G.1 clA (Fz (fun _ => False) H.size) [] H := sp_nil
        have hJk_7 := sp_nilJ (F := (fun _ => False)) hSep (fun _ => id) hFk_7
        refine c_i (va_runS (As := [.int (nI t9)]) (rest := [.ref aN]) ⟨hx, hb, hml, hown, hts⟩ (m_X4_at l G H.size t9 ) (va_cwS 1 hts (lw_S q1584 q1585 q44 q1586) rfl rfl rfl (by decide +kernel) ⟨Nat.le_of_ble_eq_true rfl, Nat.le_of_ble_eq_true rfl⟩) (sp_preS hE hS hFk_7 hPk_7 trivial) rfl rfl hl.1 rfl (lv_room (Nat.le_of_ble_eq_true rfl)) dX4_forbidden_49 ⟨by first | exact Nat.le_of_ble_eq_true rfl | omega | (dsimp only; omega), by first | exact Nat.le_of_ble_eq_true rfl | omega | (dsimp only; omega)⟩) hS hFk_7 hJk_7 (fun r_8 u_9 H locs hpk_7 hSep hS hzk_7 => ?_)
        obtain rfl : r_8 = (nI (23 + 15 * t9)) := hpk_7
        refine W.cs (cells' := 0) (slots' := 0) rfl rfl ?_
        have hSep : Sep G.1 clA (Fz F s.heap.size) [pts aT (.inl (G.2.1 0, 20, .inl fT)), pts aN (.inl (G.2.1 0, 89, .inl fN)), pts aL (.inl (G.2.1 0, 89, .inl fL)), pts aP (.inl (G.2.1 0, 89, .inl fP)), pts aD (.inl (G.2.1 0, 1246, .inl fD)), pts aK (.inl (G.2.1 0, 178, .inl fK)), pts aZ (.inl (G.2.1 2, 2, .inl fZ)), pts aG (.inl (G.2.1 0, 18, .inl fG)), pts aB (.inl (G.2.1 0, 5, .inl fB)), pts aS (.inl (G.2.1 0, 5, .inl fS)), pts mo (.inr (3, [.int (nI 0), .ref aT, .int (nI T.length), .ref aN, .ref aL, .ref aP, .ref aD, .int (nI hs.length), .ref aK, .ref aZ, .ref aG, .ref aB, .int (nI bl), .int bp, .ref aS, .int (nI tl)]))] H := hSep
        refine lv_iconst (v := (nI 3)) hx hb dX4_forbidden_52 (by decide) ?_
        refine n_iadd hx hb dX4_forbidden_53 ?_
        refine lv_iload_n hx hb dX4_forbidden_54 rfl (lv_at hl 2 rfl) ?_
        refine n_iadd hx hb dX4_forbidden_55 ?_
        refine n_iald (i := ((23 + 15 * t9) + 3) + k9) hx hb hK (hSep.cel (k := 1) rfl) 0 rfl (by have := (gB_ok ho (t := t9) (by omega)).1; omega) (by have := (gB_ok ho (t := t9) (by omega)).1; omega) dX4_forbidden_56 ?_
        refine n_eq (y := (nI ((gB g t9).getD k9 0))) (he.b (by omega) (by omega) (by omega)) ?_
        refine lv_goto (tgt := 61) hx hb dX4_forbidden_57 (by decide) ?_
        have hop : oForbidden (g, hs, kp, T) (nI t9) (nI k9) = (0, (nI ((gB g t9).getD k9 0)), g, hs, kp, T) := by unfold oForbidden; rw [if_neg (by rw [hgd.1]; decide), if_neg hgd.2, nI_toInt ht92, Int.toNat_natCast, nI_toInt hk92, Int.toNat_natCast]; refine congrArg (fun v => (0, v, _)) ?_; exact if_pos (show k9 < (gB g t9).length by omega)
        rw [hQ]
        exact r_i (r := (nI ((gB g t9).getD k9 0))) (u := ()) hx hb hr (by rw [hop]; exact fun _ => rfl) (by rw [hop]; exact mod_close (hSep.pick [10, 0, 1, 2, 3, 4, 5, 6, 7, 8, 9] rfl rfl) rfl rfl rfl hC) hS (by first | exact Nat.le_of_ble_eq_true rfl | omega | (dsimp only; omega)) (by first | exact Nat.le_of_ble_eq_true rfl | omega | (dsimp only; omega)) dX4_forbidden_61 hlocks
    · obtain ⟨hx1, hop⟩ := hrf.resolve_right (fun h => absurd (of_decide_eq_true c24) (by rw [h.1]; decide))
      refine lv_iconst (v := (nI 0)) hx hb dX4_forbidden_27 (by decide) ?_
      rw [hQ]
      exact r_i (r := (nI 0)) (u := ()) hx hb hr (by rw [hop]; exact fun h => absurd h hx1) (by rw [hop]; exact mod_close (hSep.pick [10, 0, 1, 2, 3, 4, 5, 6, 7, 8, 9] rfl rfl) rfl rfl rfl hC) hS (by first | exact Nat.le_of_ble_eq_true rfl | omega | (dsimp only; omega)) (by first | exact Nat.le_of_ble_eq_true rfl | omega | (dsimp only; omega)) dX4_forbidden_28 hlocks
  refine lv_aload_n hx hb dX4_forbidden_0 rfl (lv_at hl 0 rfl) ?_
  refine lv_iload_n hx hb dX4_forbidden_1 rfl (lv_at hl 1 rfl) ?_
  have hFk_10 : ∀ q, Fz (fun _ => False) s.heap.size q → (Fz F s.heap.size) q := fun q h => by rcases h with h | h; exact h.elim; exact Fz.new (Nat.le_trans hS.1 h)
  have hPk_10 : Sep G.1 clA (Fz (fun _ => False) s.heap.size) [] s.heap := sp_nil
  have hJk_10 := sp_nilJ (F := (fun _ => False)) hSep (fun _ => id) hFk_10
  refine c_i (va_runS (As := [.int t]) (rest := [.ref mo]) ⟨hx, hb, hml, hown, hts⟩ (m_X4_isTeller l G s.heap.size t ) (va_cwS 1 hts (lw_S q1577 q1578 q44 q1579) rfl rfl rfl (by decide +kernel) ⟨Nat.le_of_ble_eq_true rfl, Nat.le_of_ble_eq_true rfl⟩) (sp_preS hE hS hFk_10 hPk_10 trivial) rfl rfl hl.1 rfl (lv_room (Nat.le_of_ble_eq_true rfl)) dX4_forbidden_2 ⟨by first | exact Nat.le_of_ble_eq_true rfl | omega | (dsimp only; omega), by first | exact Nat.le_of_ble_eq_true rfl | omega | (dsimp only; omega)⟩) hS hFk_10 hJk_10 (fun r_11 u_12 H locs hpk_10 hSep hS hzk_10 => ?_)
  obtain rfl : r_11 = (bI (inR t.toInt 0 1)) := hpk_10
  refine W.cs (cells' := 0) (slots' := 0) rfl rfl ?_
  have hSep : Sep G.1 clA (Fz F s.heap.size) [pts mo (.inr (3, [.int rf, .ref aT, .int (nI T.length), .ref aN, .ref aL, .ref aP, .ref aD, .int (nI hs.length), .ref aK, .ref aZ, .ref aG, .ref aB, .int (nI bl), .int bp, .ref aS, .int (nI tl)])), pts aT (.inl (G.2.1 0, 20, .inl fT)), pts aN (.inl (G.2.1 0, 89, .inl fN)), pts aL (.inl (G.2.1 0, 89, .inl fL)), pts aP (.inl (G.2.1 0, 89, .inl fP)), pts aD (.inl (G.2.1 0, 1246, .inl fD)), pts aK (.inl (G.2.1 0, 178, .inl fK)), pts aZ (.inl (G.2.1 2, 2, .inl fZ)), pts aG (.inl (G.2.1 0, 18, .inl fG)), pts aB (.inl (G.2.1 0, 5, .inl fB)), pts aS (.inl (G.2.1 0, 5, .inl fS))] H := hSep
  refine b_if_ne (tgt := 12) hx hb dX4_forbidden_5 (by decide) (fun c5 => ?_) (fun c5 => ?_)
  · refine lv_iload_n hx hb dX4_forbidden_12 rfl (lv_at hl 2 rfl) ?_
    refine lv_if_lt (tgt := 20) hx hb dX4_forbidden_13 (by decide) (fun c13 => ?_) (fun c13 => ?_)
    · refine lv_iconst (v := (nI 2)) hx hb dX4_forbidden_20 (by decide) ?_
      exact L21 2 (Or.inl ⟨by decide, by unfold oForbidden; rw [if_neg (by rw [c5]; decide), if_pos c13]⟩) (by decide) _ _ _ hSep hS (lv_sub hl [0, 1, 2] rfl)
    · refine lv_iconst (v := (nI 0)) hx hb dX4_forbidden_16 (by decide) ?_
      refine lv_goto (tgt := 21) hx hb dX4_forbidden_17 (by decide) ?_
      exact L21 0 (Or.inr ⟨rfl, ⟨c5, c13⟩⟩) (by decide) _ _ _ hSep hS (lv_sub hl [0, 1, 2] rfl)
  · refine lv_iconst (v := (nI 1)) hx hb dX4_forbidden_8 (by decide) ?_
    refine lv_goto (tgt := 21) hx hb dX4_forbidden_9 (by decide) ?_
    exact L21 1 (Or.inl ⟨by decide, by unfold oForbidden; rw [if_pos c5]⟩) (by decide) _ _ _ hSep hS (lv_sub hl [0, 1, 2] rfl)

set_option maxHeartbeats 600000 in
set_option maxRecDepth 100000 in
theorem m_X4_listener (l : Launch) (G : EVT) (F : Nat → Prop) (sz : Nat) (mo : Nat) (rf : Int32) (σ : MS) (t : Int32) (x : Int32)  : Met l yX4_listener (ws_ yX4_listener cX4_listener 3 (some .int)) ({ frames := 1, cells := 0, slots := 0, locals := 25 } : Room) (SPc G F sz [.ref mo, .int t, .int x] [modA G mo rf σ] (fun _ => True)) (SQi G F sz (fun (r : Int32) (u : Unit) => (oListener σ t x).1 = 0 → r = (oListener σ t x).2.1) (fun (u : Unit) => [modA G mo (nI (oListener σ t x).1) (oListener σ t x).2.2])) (0) (0) (Fz F sz) := by
  refine sp_of RX4 (by decide) rfl (Nat.le_of_ble_eq_true rfl) ?_
  intro p e s m args below meth c ls QQ hx hb hr hts hown hlocks hml hnm hsz hSep hΦ hE hS hl hQ
  subst hsz
  have hK := hE.1
  have hl : lv_has ls 3 [(0, .ref mo), (1, .int t), (2, .int x)] := hl
  obtain ⟨g, hs, kp, T⟩ := σ
  obtain ⟨aT, aN, aL, aP, aD, aK, aZ, aG, aB, aS, bl, bp, tl, fT, fN, fL, fP, fD, fK, fZ, fG, fB, fS, hC, hSep⟩ := mod_unpk hSep
  have hg : gV g := hC.1.1
  have ho : gOk g := hC.1.1.1
  have he : Enc fN g := hC.1.2
  have hT : Pre fT T := hC.2.2.2.1
  have hT20 : T.length ≤ 20 := hC.2.2.2.2.1
  have hT256 : ∀ w ∈ T, w < 256 := hC.2.2.2.2.2
  have hD14 : hs.length ≤ 14 := hC.2.1.1
  have L34 : ∀ (x9 : Nat) , ((x9 ≠ 0 ∧ oListener (g, hs, kp, T) t x = (x9, 0, (g, hs, kp, T))) ∨ (x9 = 0 ∧ (inR t.toInt 0 2 = true ∧ inR x.toInt 0 3 = true))) → (x9 < 3) → ∀ (H : Heap) (locs : List Loc) (ls : Array Slot), Sep G.1 clA (Fz F s.heap.size) [pts mo (.inr (3, [.int rf, .ref aT, .int (nI T.length), .ref aN, .ref aL, .ref aP, .ref aD, .int (nI hs.length), .ref aK, .ref aZ, .ref aG, .ref aB, .int (nI bl), .int bp, .ref aS, .int (nI tl)])), pts aT (.inl (G.2.1 0, 20, .inl fT)), pts aN (.inl (G.2.1 0, 89, .inl fN)), pts aL (.inl (G.2.1 0, 89, .inl fL)), pts aP (.inl (G.2.1 0, 89, .inl fP)), pts aD (.inl (G.2.1 0, 1246, .inl fD)), pts aK (.inl (G.2.1 0, 178, .inl fK)), pts aZ (.inl (G.2.1 2, 2, .inl fZ)), pts aG (.inl (G.2.1 0, 18, .inl fG)), pts aB (.inl (G.2.1 0, 5, .inl fB)), pts aS (.inl (G.2.1 0, 5, .inl fS))] H → va_S (Fz F s.heap.size) s.heap H locs → lv_has ls 3 [(0, .ref mo), (1, .int t), (2, .int x)] → W p l e ({ frames := 1, cells := 0, slots := 0, locals := 25 } : Room) s m args below meth c H locs (0) (0) QQ (F0 m 34 ls [.int (nI x9), .ref mo]) := by
    intro x9 hrf hx9 H locs ls hSep hS hl
    obtain ⟨Fk_1, hFk_1, hPk_1, hJk_1⟩ := hSep.cut (Pc := [pts mo (.inr (3, [.int rf, .ref aT, .int (nI T.length), .ref aN, .ref aL, .ref aP, .ref aD, .int (nI hs.length), .ref aK, .ref aZ, .ref aG, .ref aB, .int (nI bl), .int bp, .ref aS, .int (nI tl)]))]) (Pr := [pts aT (.inl (G.2.1 0, 20, .inl fT)), pts aN (.inl (G.2.1 0, 89, .inl fN)), pts aL (.inl (G.2.1 0, 89, .inl fL)), pts aP (.inl (G.2.1 0, 89, .inl fP)), pts aD (.inl (G.2.1 0, 1246, .inl fD)), pts aK (.inl (G.2.1 0, 178, .inl fK)), pts aZ (.inl (G.2.1 2, 2, .inl fZ)), pts aG (.inl (G.2.1 0, 18, .inl fG)), pts aB (.inl (G.2.1 0, 5, .inl fB)), pts aS (.inl (G.2.1 0, 5, .inl fS))]) (fun q h => Fz.new (Nat.le_trans hS.1 h)) [0] [1, 2, 3, 4, 5, 6, 7, 8, 9, 10] rfl rfl rfl rfl (by decide)
    refine c_i (va_runV (As := [.int (nI x9)]) (rest := []) ⟨hx, hb, hml, hown, hts⟩ (m_X4_refused l G Fk_1 H.size mo rf aT T.length aN aL aP aD hs.length aK aZ aG aB bl bp aS tl x9 (by omega)) (cwV 1 hts (lw_V q1535 q1537 qs21 q44 q1538) rfl rfl rfl (by decide +kernel) ⟨Nat.le_of_ble_eq_true rfl, Nat.le_of_ble_eq_true rfl⟩) (sp_preV hE hS hFk_1 hPk_1 trivial (sp_recv (ci := 3) hK (hSep.cel (k := 0) rfl) rfl)) rfl rfl hl.1 rfl (lv_room (Nat.le_of_ble_eq_true rfl)) dX4_listener_34 ⟨by first | exact Nat.le_of_ble_eq_true rfl | omega | (dsimp only; omega), by first | exact Nat.le_of_ble_eq_true rfl | omega | (dsimp only; omega)⟩) hS hFk_1 hJk_1 (fun r_2 u_3 H locs hpk_1 hSep hS hzk_1 => ?_)
    obtain rfl : r_2 = (bI (decide (0 < x9))) := hpk_1
    refine W.cs (cells' := 0) (slots' := 0) rfl rfl ?_
    have hSep : Sep G.1 clA (Fz F s.heap.size) [pts aT (.inl (G.2.1 0, 20, .inl fT)), pts aN (.inl (G.2.1 0, 89, .inl fN)), pts aL (.inl (G.2.1 0, 89, .inl fL)), pts aP (.inl (G.2.1 0, 89, .inl fP)), pts aD (.inl (G.2.1 0, 1246, .inl fD)), pts aK (.inl (G.2.1 0, 178, .inl fK)), pts aZ (.inl (G.2.1 2, 2, .inl fZ)), pts aG (.inl (G.2.1 0, 18, .inl fG)), pts aB (.inl (G.2.1 0, 5, .inl fB)), pts aS (.inl (G.2.1 0, 5, .inl fS)), pts mo (.inr (3, [.int (nI x9), .ref aT, .int (nI T.length), .ref aN, .ref aL, .ref aP, .ref aD, .int (nI hs.length), .ref aK, .ref aZ, .ref aG, .ref aB, .int (nI bl), .int bp, .ref aS, .int (nI tl)]))] H := hSep
    refine b_if_eq (tgt := 42) hx hb dX4_listener_37 (by decide) (fun c37 => ?_) (fun c37 => ?_)
    · obtain ⟨hx0, hgd⟩ := hrf.resolve_left (fun h => h.1 (by have := of_decide_eq_false c37; omega))
      subst hx0
      obtain ⟨t9, ht91, ht92, rfl⟩ := inR_n (n := 2) hgd.1
      obtain ⟨n9, hn91, hn92, rfl⟩ := inR_n (n := 3) hgd.2
      refine lv_iload_n hx hb dX4_listener_42 rfl (lv_at hl 2 rfl) ?_
      refine n_if_ne (tgt := 58) hx hb (by omega) dX4_listener_43 (by decide) (fun c43 => ?_) (fun c43 => ?_)
      · refine lv_iload_n hx hb dX4_listener_58 rfl (lv_at hl 2 rfl) ?_
        refine lv_iconst (v := (nI 1)) hx hb dX4_listener_59 (by decide) ?_
        refine n_icmp_ne (tgt := 75) hx hb (by omega) (by omega) dX4_listener_60 (by decide) (fun c60 => ?_) (fun c60 => ?_)
        · refine lv_iload_n hx hb dX4_listener_75 rfl (lv_at hl 2 rfl) ?_
          refine lv_iconst (v := (nI 2)) hx hb dX4_listener_76 (by decide) ?_
          refine n_icmp_ne (tgt := 92) hx hb (by omega) (by omega) dX4_listener_77 (by decide) (fun c77 => ?_) (fun c77 => ?_)
          · refine lv_aload_n hx hb dX4_listener_92 rfl (lv_at hl 0 rfl) ?_
            refine va_get (D := G.1) (ci := 3) (v := .ref aN) (C := RX4) (T := TX4) (N := 16) hx hb hts in_X4 hown hK (hSep.cel (k := 10) rfl) 0 rfl rfl 3 (by decide) (hts _ q1476) (fun _ h9 => h9) rfl dX4_listener_93 ?_
            refine lv_bipush (v := (nI 20)) hx hb dX4_listener_96 (by decide) ?_
            refine lv_iload_n hx hb dX4_listener_98 rfl (lv_at hl 1 rfl) ?_
            refine n_iadd hx hb dX4_listener_99 ?_
            refine n_iald (i := 20 + t9) hx hb hK (hSep.cel (k := 1) rfl) 0 rfl (by omega) (by omega) dX4_listener_100 ?_
            refine n_eq (y := (g.1 (11 + 3 * n9 + t9))) (by rw [show 11 + 3 * n9 + t9 = 20 + t9 by omega]; exact he.num (by omega)) ?_
            have hop : oListener (g, hs, kp, T) (nI t9) (nI n9) = (0, (g.1 (11 + 3 * n9 + t9)), g, hs, kp, T) := by unfold oListener; rw [if_neg (by rw [hgd.1]; decide), if_neg (by rw [hgd.2]; decide), nI_toInt ht92, Int.toNat_natCast, nI_toInt hn92, Int.toNat_natCast]
            rw [hQ]
            exact r_i (r := (g.1 (11 + 3 * n9 + t9))) (u := ()) hx hb hr (by rw [hop]; exact fun _ => rfl) (by rw [hop]; exact mod_close (hSep.pick [10, 0, 1, 2, 3, 4, 5, 6, 7, 8, 9] rfl rfl) rfl rfl rfl hC) hS (by first | exact Nat.le_of_ble_eq_true rfl | omega | (dsimp only; omega)) (by first | exact Nat.le_of_ble_eq_true rfl | omega | (dsimp only; omega)) dX4_listener_101 hlocks
          · refine lv_aload_n hx hb dX4_listener_80 rfl (lv_at hl 0 rfl) ?_
            refine va_get (D := G.1) (ci := 3) (v := .ref aN) (C := RX4) (T := TX4) (N := 16) hx hb hts in_X4 hown hK (hSep.cel (k := 10) rfl) 0 rfl rfl 3 (by decide) (hts _ q1476) (fun _ h9 => h9) rfl dX4_listener_81 ?_
            refine lv_bipush (v := (nI 17)) hx hb dX4_listener_84 (by decide) ?_
            refine lv_iload_n hx hb dX4_listener_86 rfl (lv_at hl 1 rfl) ?_
            refine n_iadd hx hb dX4_listener_87 ?_
            refine n_iald (i := 17 + t9) hx hb hK (hSep.cel (k := 1) rfl) 0 rfl (by omega) (by omega) dX4_listener_88 ?_
            refine lv_goto (tgt := 101) hx hb dX4_listener_89 (by decide) ?_
            refine n_eq (y := (g.1 (11 + 3 * n9 + t9))) (by rw [show 11 + 3 * n9 + t9 = 17 + t9 by omega]; exact he.num (by omega)) ?_
            have hop : oListener (g, hs, kp, T) (nI t9) (nI n9) = (0, (g.1 (11 + 3 * n9 + t9)), g, hs, kp, T) := by unfold oListener; rw [if_neg (by rw [hgd.1]; decide), if_neg (by rw [hgd.2]; decide), nI_toInt ht92, Int.toNat_natCast, nI_toInt hn92, Int.toNat_natCast]
            rw [hQ]
            exact r_i (r := (g.1 (11 + 3 * n9 + t9))) (u := ()) hx hb hr (by rw [hop]; exact fun _ => rfl) (by rw [hop]; exact mod_close (hSep.pick [10, 0, 1, 2, 3, 4, 5, 6, 7, 8, 9] rfl rfl) rfl rfl rfl hC) hS (by first | exact Nat.le_of_ble_eq_true rfl | omega | (dsimp only; omega)) (by first | exact Nat.le_of_ble_eq_true rfl | omega | (dsimp only; omega)) dX4_listener_101 hlocks
        · refine lv_aload_n hx hb dX4_listener_63 rfl (lv_at hl 0 rfl) ?_
          refine va_get (D := G.1) (ci := 3) (v := .ref aN) (C := RX4) (T := TX4) (N := 16) hx hb hts in_X4 hown hK (hSep.cel (k := 10) rfl) 0 rfl rfl 3 (by decide) (hts _ q1476) (fun _ h9 => h9) rfl dX4_listener_64 ?_
          refine lv_bipush (v := (nI 14)) hx hb dX4_listener_67 (by decide) ?_
          refine lv_iload_n hx hb dX4_listener_69 rfl (lv_at hl 1 rfl) ?_
          refine n_iadd hx hb dX4_listener_70 ?_
          refine n_iald (i := 14 + t9) hx hb hK (hSep.cel (k := 1) rfl) 0 rfl (by omega) (by omega) dX4_listener_71 ?_
          refine lv_goto (tgt := 101) hx hb dX4_listener_72 (by decide) ?_
          refine n_eq (y := (g.1 (11 + 3 * n9 + t9))) (by rw [show 11 + 3 * n9 + t9 = 14 + t9 by omega]; exact he.num (by omega)) ?_
          have hop : oListener (g, hs, kp, T) (nI t9) (nI n9) = (0, (g.1 (11 + 3 * n9 + t9)), g, hs, kp, T) := by unfold oListener; rw [if_neg (by rw [hgd.1]; decide), if_neg (by rw [hgd.2]; decide), nI_toInt ht92, Int.toNat_natCast, nI_toInt hn92, Int.toNat_natCast]
          rw [hQ]
          exact r_i (r := (g.1 (11 + 3 * n9 + t9))) (u := ()) hx hb hr (by rw [hop]; exact fun _ => rfl) (by rw [hop]; exact mod_close (hSep.pick [10, 0, 1, 2, 3, 4, 5, 6, 7, 8, 9] rfl rfl) rfl rfl rfl hC) hS (by first | exact Nat.le_of_ble_eq_true rfl | omega | (dsimp only; omega)) (by first | exact Nat.le_of_ble_eq_true rfl | omega | (dsimp only; omega)) dX4_listener_101 hlocks
      · refine lv_aload_n hx hb dX4_listener_46 rfl (lv_at hl 0 rfl) ?_
        refine va_get (D := G.1) (ci := 3) (v := .ref aN) (C := RX4) (T := TX4) (N := 16) hx hb hts in_X4 hown hK (hSep.cel (k := 10) rfl) 0 rfl rfl 3 (by decide) (hts _ q1476) (fun _ h9 => h9) rfl dX4_listener_47 ?_
        refine lv_bipush (v := (nI 11)) hx hb dX4_listener_50 (by decide) ?_
        refine lv_iload_n hx hb dX4_listener_52 rfl (lv_at hl 1 rfl) ?_
        refine n_iadd hx hb dX4_listener_53 ?_
        refine n_iald (i := 11 + t9) hx hb hK (hSep.cel (k := 1) rfl) 0 rfl (by omega) (by omega) dX4_listener_54 ?_
        refine lv_goto (tgt := 101) hx hb dX4_listener_55 (by decide) ?_
        refine n_eq (y := (g.1 (11 + 3 * n9 + t9))) (by rw [show 11 + 3 * n9 + t9 = 11 + t9 by omega]; exact he.num (by omega)) ?_
        have hop : oListener (g, hs, kp, T) (nI t9) (nI n9) = (0, (g.1 (11 + 3 * n9 + t9)), g, hs, kp, T) := by unfold oListener; rw [if_neg (by rw [hgd.1]; decide), if_neg (by rw [hgd.2]; decide), nI_toInt ht92, Int.toNat_natCast, nI_toInt hn92, Int.toNat_natCast]
        rw [hQ]
        exact r_i (r := (g.1 (11 + 3 * n9 + t9))) (u := ()) hx hb hr (by rw [hop]; exact fun _ => rfl) (by rw [hop]; exact mod_close (hSep.pick [10, 0, 1, 2, 3, 4, 5, 6, 7, 8, 9] rfl rfl) rfl rfl rfl hC) hS (by first | exact Nat.le_of_ble_eq_true rfl | omega | (dsimp only; omega)) (by first | exact Nat.le_of_ble_eq_true rfl | omega | (dsimp only; omega)) dX4_listener_101 hlocks
    · obtain ⟨hx1, hop⟩ := hrf.resolve_right (fun h => absurd (of_decide_eq_true c37) (by rw [h.1]; decide))
      refine lv_iconst (v := (nI 0)) hx hb dX4_listener_40 (by decide) ?_
      rw [hQ]
      exact r_i (r := (nI 0)) (u := ()) hx hb hr (by rw [hop]; exact fun h => absurd h hx1) (by rw [hop]; exact mod_close (hSep.pick [10, 0, 1, 2, 3, 4, 5, 6, 7, 8, 9] rfl rfl) rfl rfl rfl hC) hS (by first | exact Nat.le_of_ble_eq_true rfl | omega | (dsimp only; omega)) (by first | exact Nat.le_of_ble_eq_true rfl | omega | (dsimp only; omega)) dX4_listener_41 hlocks
  refine lv_aload_n hx hb dX4_listener_0 rfl (lv_at hl 0 rfl) ?_
  refine lv_iload_n hx hb dX4_listener_1 rfl (lv_at hl 1 rfl) ?_
  refine lv_i2l hx hb dX4_listener_2 rfl ?_
  refine lv_lconst (v := 0) hx hb dX4_listener_3 (by decide) ?_
  refine lv_ldc2 (v := 2) hx hb hown (hts _ q1598) dX4_listener_4 ?_
  have hFk_4 : ∀ q, Fz (fun _ => False) s.heap.size q → (Fz F s.heap.size) q := fun q h => by rcases h with h | h; exact h.elim; exact Fz.new (Nat.le_trans hS.1 h)
  have hPk_4 : Sep G.1 clA (Fz (fun _ => False) s.heap.size) [] s.heap := sp_nil
  have hJk_4 := sp_nilJ (F := (fun _ => False)) hSep (fun _ => id) hFk_4
  refine c_i (va_runS (As := [.long t.toInt64, .long (0 : Int64), .long (2 : Int64)]) (rest := [.ref mo]) ⟨hx, hb, hml, hown, hts⟩ (m_X4_in l G s.heap.size t.toInt64 (0 : Int64) (2 : Int64) ) (va_cwS 3 hts (lw_S q1532 q1533 q44 q1534) rfl rfl rfl (by decide +kernel) ⟨Nat.le_of_ble_eq_true rfl, Nat.le_of_ble_eq_true rfl⟩) (sp_preS hE hS hFk_4 hPk_4 trivial) rfl rfl hl.1 rfl (lv_room (Nat.le_of_ble_eq_true rfl)) dX4_listener_7 ⟨by first | exact Nat.le_of_ble_eq_true rfl | omega | (dsimp only; omega), by first | exact Nat.le_of_ble_eq_true rfl | omega | (dsimp only; omega)⟩) hS hFk_4 hJk_4 (fun r_5 u_6 H locs hpk_4 hSep hS hzk_4 => ?_)
  obtain rfl : r_5 = (bI (inR t.toInt64.toInt (0 : Int64).toInt (2 : Int64).toInt)) := hpk_4
  refine W.cs (cells' := 0) (slots' := 0) rfl rfl ?_
  have hSep : Sep G.1 clA (Fz F s.heap.size) [pts mo (.inr (3, [.int rf, .ref aT, .int (nI T.length), .ref aN, .ref aL, .ref aP, .ref aD, .int (nI hs.length), .ref aK, .ref aZ, .ref aG, .ref aB, .int (nI bl), .int bp, .ref aS, .int (nI tl)])), pts aT (.inl (G.2.1 0, 20, .inl fT)), pts aN (.inl (G.2.1 0, 89, .inl fN)), pts aL (.inl (G.2.1 0, 89, .inl fL)), pts aP (.inl (G.2.1 0, 89, .inl fP)), pts aD (.inl (G.2.1 0, 1246, .inl fD)), pts aK (.inl (G.2.1 0, 178, .inl fK)), pts aZ (.inl (G.2.1 2, 2, .inl fZ)), pts aG (.inl (G.2.1 0, 18, .inl fG)), pts aB (.inl (G.2.1 0, 5, .inl fB)), pts aS (.inl (G.2.1 0, 5, .inl fS))] H := hSep
  refine n_eq (y := (bI (inR t.toInt 0 2))) (by rw [Int32.toInt_toInt64]; rfl) ?_
  refine b_if_ne (tgt := 17) hx hb dX4_listener_10 (by decide) (fun c10 => ?_) (fun c10 => ?_)
  · refine lv_iload_n hx hb dX4_listener_17 rfl (lv_at hl 2 rfl) ?_
    refine lv_i2l hx hb dX4_listener_18 rfl ?_
    refine lv_lconst (v := 0) hx hb dX4_listener_19 (by decide) ?_
    refine lv_ldc2 (v := 3) hx hb hown (hts _ q1599) dX4_listener_20 ?_
    have hFk_7 : ∀ q, Fz (fun _ => False) H.size q → (Fz F s.heap.size) q := fun q h => by rcases h with h | h; exact h.elim; exact Fz.new (Nat.le_trans hS.1 h)
    have hPk_7 : Sep G.1 clA (Fz (fun _ => False) H.size) [] H := sp_nil
    have hJk_7 := sp_nilJ (F := (fun _ => False)) hSep (fun _ => id) hFk_7
    refine c_i (va_runS (As := [.long x.toInt64, .long (0 : Int64), .long (3 : Int64)]) (rest := [.ref mo]) ⟨hx, hb, hml, hown, hts⟩ (m_X4_in l G H.size x.toInt64 (0 : Int64) (3 : Int64) ) (va_cwS 3 hts (lw_S q1532 q1533 q44 q1534) rfl rfl rfl (by decide +kernel) ⟨Nat.le_of_ble_eq_true rfl, Nat.le_of_ble_eq_true rfl⟩) (sp_preS hE hS hFk_7 hPk_7 trivial) rfl rfl hl.1 rfl (lv_room (Nat.le_of_ble_eq_true rfl)) dX4_listener_23 ⟨by first | exact Nat.le_of_ble_eq_true rfl | omega | (dsimp only; omega), by first | exact Nat.le_of_ble_eq_true rfl | omega | (dsimp only; omega)⟩) hS hFk_7 hJk_7 (fun r_8 u_9 H locs hpk_7 hSep hS hzk_7 => ?_)
    obtain rfl : r_8 = (bI (inR x.toInt64.toInt (0 : Int64).toInt (3 : Int64).toInt)) := hpk_7
    refine W.cs (cells' := 0) (slots' := 0) rfl rfl ?_
    have hSep : Sep G.1 clA (Fz F s.heap.size) [pts mo (.inr (3, [.int rf, .ref aT, .int (nI T.length), .ref aN, .ref aL, .ref aP, .ref aD, .int (nI hs.length), .ref aK, .ref aZ, .ref aG, .ref aB, .int (nI bl), .int bp, .ref aS, .int (nI tl)])), pts aT (.inl (G.2.1 0, 20, .inl fT)), pts aN (.inl (G.2.1 0, 89, .inl fN)), pts aL (.inl (G.2.1 0, 89, .inl fL)), pts aP (.inl (G.2.1 0, 89, .inl fP)), pts aD (.inl (G.2.1 0, 1246, .inl fD)), pts aK (.inl (G.2.1 0, 178, .inl fK)), pts aZ (.inl (G.2.1 2, 2, .inl fZ)), pts aG (.inl (G.2.1 0, 18, .inl fG)), pts aB (.inl (G.2.1 0, 5, .inl fB)), pts aS (.inl (G.2.1 0, 5, .inl fS))] H := hSep
    refine n_eq (y := (bI (inR x.toInt 0 3))) (by rw [Int32.toInt_toInt64]; rfl) ?_
    refine b_if_eq (tgt := 33) hx hb dX4_listener_26 (by decide) (fun c26 => ?_) (fun c26 => ?_)
    · refine lv_iconst (v := (nI 2)) hx hb dX4_listener_33 (by decide) ?_
      exact L34 2 (Or.inl ⟨by decide, by unfold oListener; rw [if_neg (by rw [c10]; decide), if_pos c26]⟩) (by decide) _ _ _ hSep hS (lv_sub hl [0, 1, 2] rfl)
    · refine lv_iconst (v := (nI 0)) hx hb dX4_listener_29 (by decide) ?_
      refine lv_goto (tgt := 34) hx hb dX4_listener_30 (by decide) ?_
      exact L34 0 (Or.inr ⟨rfl, ⟨c10, c26⟩⟩) (by decide) _ _ _ hSep hS (lv_sub hl [0, 1, 2] rfl)
  · refine lv_iconst (v := (nI 1)) hx hb dX4_listener_13 (by decide) ?_
    refine lv_goto (tgt := 34) hx hb dX4_listener_14 (by decide) ?_
    exact L34 1 (Or.inl ⟨by decide, by unfold oListener; rw [if_pos c10]⟩) (by decide) _ _ _ hSep hS (lv_sub hl [0, 1, 2] rfl)

set_option maxHeartbeats 600000 in
set_option maxRecDepth 100000 in
theorem m_X4_told (l : Launch) (G : EVT) (F : Nat → Prop) (sz : Nat) (mo : Nat) (rf : Int32) (σ : MS) (k : Int32) (i : Int32)  : Met l yX4_told (ws_ yX4_told cX4_told 3 (some .int)) ({ frames := 1, cells := 0, slots := 0, locals := 22 } : Room) (SPc G F sz [.ref mo, .int k, .int i] [modA G mo rf σ] (fun _ => True)) (SQi G F sz (fun (r : Int32) (u : Unit) => (oTold σ k i).1 = 0 → r = (oTold σ k i).2.1) (fun (u : Unit) => [modA G mo (nI (oTold σ k i).1) (oTold σ k i).2.2])) (0) (0) (Fz F sz) := by
  refine sp_of RX4 (by decide) rfl (Nat.le_of_ble_eq_true rfl) ?_
  intro p e s m args below meth c ls QQ hx hb hr hts hown hlocks hml hnm hsz hSep hΦ hE hS hl hQ
  subst hsz
  have hK := hE.1
  have hl : lv_has ls 3 [(0, .ref mo), (1, .int k), (2, .int i)] := hl
  obtain ⟨g, hs, kp, T⟩ := σ
  obtain ⟨aT, aN, aL, aP, aD, aK, aZ, aG, aB, aS, bl, bp, tl, fT, fN, fL, fP, fD, fK, fZ, fG, fB, fS, hC, hSep⟩ := mod_unpk hSep
  have hg : gV g := hC.1.1
  have ho : gOk g := hC.1.1.1
  have he : Enc fN g := hC.1.2
  have hT : Pre fT T := hC.2.2.2.1
  have hT20 : T.length ≤ 20 := hC.2.2.2.2.1
  have hT256 : ∀ w ∈ T, w < 256 := hC.2.2.2.2.2
  have hD14 : hs.length ≤ 14 := hC.2.1.1
  have L14 : ∀ (x9 : Nat) , ((x9 ≠ 0 ∧ oTold (g, hs, kp, T) k i = (x9, 0, (g, hs, kp, T))) ∨ (x9 = 0 ∧ (¬ k < 0 ∧ ¬ i < 0))) → (x9 < 3) → ∀ (H : Heap) (locs : List Loc) (ls : Array Slot), Sep G.1 clA (Fz F s.heap.size) [pts mo (.inr (3, [.int rf, .ref aT, .int (nI T.length), .ref aN, .ref aL, .ref aP, .ref aD, .int (nI hs.length), .ref aK, .ref aZ, .ref aG, .ref aB, .int (nI bl), .int bp, .ref aS, .int (nI tl)])), pts aT (.inl (G.2.1 0, 20, .inl fT)), pts aN (.inl (G.2.1 0, 89, .inl fN)), pts aL (.inl (G.2.1 0, 89, .inl fL)), pts aP (.inl (G.2.1 0, 89, .inl fP)), pts aD (.inl (G.2.1 0, 1246, .inl fD)), pts aK (.inl (G.2.1 0, 178, .inl fK)), pts aZ (.inl (G.2.1 2, 2, .inl fZ)), pts aG (.inl (G.2.1 0, 18, .inl fG)), pts aB (.inl (G.2.1 0, 5, .inl fB)), pts aS (.inl (G.2.1 0, 5, .inl fS))] H → va_S (Fz F s.heap.size) s.heap H locs → lv_has ls 3 [(0, .ref mo), (1, .int k), (2, .int i)] → W p l e ({ frames := 1, cells := 0, slots := 0, locals := 22 } : Room) s m args below meth c H locs (0) (0) QQ (F0 m 14 ls [.int (nI x9), .ref mo]) := by
    intro x9 hrf hx9 H locs ls hSep hS hl
    obtain ⟨Fk_1, hFk_1, hPk_1, hJk_1⟩ := hSep.cut (Pc := [pts mo (.inr (3, [.int rf, .ref aT, .int (nI T.length), .ref aN, .ref aL, .ref aP, .ref aD, .int (nI hs.length), .ref aK, .ref aZ, .ref aG, .ref aB, .int (nI bl), .int bp, .ref aS, .int (nI tl)]))]) (Pr := [pts aT (.inl (G.2.1 0, 20, .inl fT)), pts aN (.inl (G.2.1 0, 89, .inl fN)), pts aL (.inl (G.2.1 0, 89, .inl fL)), pts aP (.inl (G.2.1 0, 89, .inl fP)), pts aD (.inl (G.2.1 0, 1246, .inl fD)), pts aK (.inl (G.2.1 0, 178, .inl fK)), pts aZ (.inl (G.2.1 2, 2, .inl fZ)), pts aG (.inl (G.2.1 0, 18, .inl fG)), pts aB (.inl (G.2.1 0, 5, .inl fB)), pts aS (.inl (G.2.1 0, 5, .inl fS))]) (fun q h => Fz.new (Nat.le_trans hS.1 h)) [0] [1, 2, 3, 4, 5, 6, 7, 8, 9, 10] rfl rfl rfl rfl (by decide)
    refine c_i (va_runV (As := [.int (nI x9)]) (rest := []) ⟨hx, hb, hml, hown, hts⟩ (m_X4_refused l G Fk_1 H.size mo rf aT T.length aN aL aP aD hs.length aK aZ aG aB bl bp aS tl x9 (by omega)) (cwV 1 hts (lw_V q1535 q1537 qs21 q44 q1538) rfl rfl rfl (by decide +kernel) ⟨Nat.le_of_ble_eq_true rfl, Nat.le_of_ble_eq_true rfl⟩) (sp_preV hE hS hFk_1 hPk_1 trivial (sp_recv (ci := 3) hK (hSep.cel (k := 0) rfl) rfl)) rfl rfl hl.1 rfl (lv_room (Nat.le_of_ble_eq_true rfl)) dX4_told_14 ⟨by first | exact Nat.le_of_ble_eq_true rfl | omega | (dsimp only; omega), by first | exact Nat.le_of_ble_eq_true rfl | omega | (dsimp only; omega)⟩) hS hFk_1 hJk_1 (fun r_2 u_3 H locs hpk_1 hSep hS hzk_1 => ?_)
    obtain rfl : r_2 = (bI (decide (0 < x9))) := hpk_1
    refine W.cs (cells' := 0) (slots' := 0) rfl rfl ?_
    have hSep : Sep G.1 clA (Fz F s.heap.size) [pts aT (.inl (G.2.1 0, 20, .inl fT)), pts aN (.inl (G.2.1 0, 89, .inl fN)), pts aL (.inl (G.2.1 0, 89, .inl fL)), pts aP (.inl (G.2.1 0, 89, .inl fP)), pts aD (.inl (G.2.1 0, 1246, .inl fD)), pts aK (.inl (G.2.1 0, 178, .inl fK)), pts aZ (.inl (G.2.1 2, 2, .inl fZ)), pts aG (.inl (G.2.1 0, 18, .inl fG)), pts aB (.inl (G.2.1 0, 5, .inl fB)), pts aS (.inl (G.2.1 0, 5, .inl fS)), pts mo (.inr (3, [.int (nI x9), .ref aT, .int (nI T.length), .ref aN, .ref aL, .ref aP, .ref aD, .int (nI hs.length), .ref aK, .ref aZ, .ref aG, .ref aB, .int (nI bl), .int bp, .ref aS, .int (nI tl)]))] H := hSep
    refine b_if_eq (tgt := 22) hx hb dX4_told_17 (by decide) (fun c17 => ?_) (fun c17 => ?_)
    · obtain ⟨hx0, hgd⟩ := hrf.resolve_left (fun h => h.1 (by have := of_decide_eq_false c17; omega))
      subst hx0
      obtain ⟨k9, hk92, rfl⟩ := nI_oZ hgd.1
      obtain ⟨i9, hi92, rfl⟩ := nI_oZ hgd.2
      refine lv_aload_n hx hb dX4_told_22 rfl (lv_at hl 0 rfl) ?_
      refine va_get (D := G.1) (ci := 3) (v := .ref aN) (C := RX4) (T := TX4) (N := 16) hx hb hts in_X4 hown hK (hSep.cel (k := 10) rfl) 0 rfl rfl 3 (by decide) (hts _ q1476) (fun _ h9 => h9) rfl dX4_told_23 ?_
      refine lv_iload_n hx hb dX4_told_26 rfl (lv_at hl 1 rfl) ?_
      refine lv_iload_n hx hb dX4_told_27 rfl (lv_at hl 2 rfl) ?_
      have hFk_4 : ∀ q, Fz (fun _ => False) H.size q → (Fz F s.heap.size) q := fun q h => by rcases h with h | h; exact h.elim; exact Fz.new (Nat.le_trans hS.1 h)
      have hPk_4 : Sep G.1 clA (Fz (fun _ => False) H.size) [] H := sp_nil
      have hJk_4 := sp_nilJ (F := (fun _ => False)) hSep (fun _ => id) hFk_4
      refine c_i (va_runS (As := [.ref aN, .int (nI k9), .int (nI i9)]) (rest := []) ⟨hx, hb, hml, hown, hts⟩ (m_X4_logged l G H.size aN fN g k9 i9 (by first | assumption | omega) (by first | assumption | omega) (by first | assumption | omega) (by first | assumption | omega)) (va_cwS 3 hts (lw_S q1567 q1568 q44 q1569) rfl rfl rfl (by decide +kernel) ⟨Nat.le_of_ble_eq_true rfl, Nat.le_of_ble_eq_true rfl⟩) (sp_preS hE hS hFk_4 hPk_4 (hSep.cel (k := 1) rfl)) rfl rfl hl.1 rfl (lv_room (Nat.le_of_ble_eq_true rfl)) dX4_told_28 ⟨by first | exact Nat.le_of_ble_eq_true rfl | omega | (dsimp only; omega), by first | exact Nat.le_of_ble_eq_true rfl | omega | (dsimp only; omega)⟩) hS hFk_4 hJk_4 (fun r_5 u_6 H locs hpk_4 hSep hS hzk_4 => ?_)
      obtain rfl : r_5 = (lgV g k9 i9) := hpk_4
      refine W.cs (cells' := 0) (slots' := 0) rfl rfl ?_
      have hSep : Sep G.1 clA (Fz F s.heap.size) [pts aT (.inl (G.2.1 0, 20, .inl fT)), pts aN (.inl (G.2.1 0, 89, .inl fN)), pts aL (.inl (G.2.1 0, 89, .inl fL)), pts aP (.inl (G.2.1 0, 89, .inl fP)), pts aD (.inl (G.2.1 0, 1246, .inl fD)), pts aK (.inl (G.2.1 0, 178, .inl fK)), pts aZ (.inl (G.2.1 2, 2, .inl fZ)), pts aG (.inl (G.2.1 0, 18, .inl fG)), pts aB (.inl (G.2.1 0, 5, .inl fB)), pts aS (.inl (G.2.1 0, 5, .inl fS)), pts mo (.inr (3, [.int (nI 0), .ref aT, .int (nI T.length), .ref aN, .ref aL, .ref aP, .ref aD, .int (nI hs.length), .ref aK, .ref aZ, .ref aG, .ref aB, .int (nI bl), .int bp, .ref aS, .int (nI tl)]))] H := hSep
      have hop : oTold (g, hs, kp, T) (nI k9) (nI i9) = (0, (lgV g k9 i9), g, hs, kp, T) := by unfold oTold; rw [if_neg (fun h => h.elim hgd.1 hgd.2), nI_toInt hk92, nI_toInt hi92, Int.toNat_natCast, Int.toNat_natCast]
      rw [hQ]
      exact r_i (r := (lgV g k9 i9)) (u := ()) hx hb hr (by rw [hop]; exact fun _ => rfl) (by rw [hop]; exact mod_close (hSep.pick [10, 0, 1, 2, 3, 4, 5, 6, 7, 8, 9] rfl rfl) rfl rfl rfl hC) hS (by first | exact Nat.le_of_ble_eq_true rfl | omega | (dsimp only; omega)) (by first | exact Nat.le_of_ble_eq_true rfl | omega | (dsimp only; omega)) dX4_told_31 hlocks
    · obtain ⟨hx1, hop⟩ := hrf.resolve_right (fun h => absurd (of_decide_eq_true c17) (by rw [h.1]; decide))
      refine lv_iconst (v := (nI 0)) hx hb dX4_told_20 (by decide) ?_
      rw [hQ]
      exact r_i (r := (nI 0)) (u := ()) hx hb hr (by rw [hop]; exact fun h => absurd h hx1) (by rw [hop]; exact mod_close (hSep.pick [10, 0, 1, 2, 3, 4, 5, 6, 7, 8, 9] rfl rfl) rfl rfl rfl hC) hS (by first | exact Nat.le_of_ble_eq_true rfl | omega | (dsimp only; omega)) (by first | exact Nat.le_of_ble_eq_true rfl | omega | (dsimp only; omega)) dX4_told_21 hlocks
  refine lv_aload_n hx hb dX4_told_0 rfl (lv_at hl 0 rfl) ?_
  refine lv_iload_n hx hb dX4_told_1 rfl (lv_at hl 1 rfl) ?_
  refine lv_if_lt (tgt := 13) hx hb dX4_told_2 (by decide) (fun c2 => ?_) (fun c2 => ?_)
  · refine lv_iconst (v := (nI 1)) hx hb dX4_told_13 (by decide) ?_
    exact L14 1 (Or.inl ⟨by decide, by unfold oTold; first | rw [if_pos (Or.inl (show k < 0 from c2))] | rw [if_pos (Or.inr (show i < 0 from c6))]⟩) (by decide) _ _ _ hSep hS (lv_sub hl [0, 1, 2] rfl)
  · refine lv_iload_n hx hb dX4_told_5 rfl (lv_at hl 2 rfl) ?_
    refine lv_if_lt (tgt := 13) hx hb dX4_told_6 (by decide) (fun c6 => ?_) (fun c6 => ?_)
    · refine lv_iconst (v := (nI 1)) hx hb dX4_told_13 (by decide) ?_
      exact L14 1 (Or.inl ⟨by decide, by unfold oTold; first | rw [if_pos (Or.inl (show k < 0 from c2))] | rw [if_pos (Or.inr (show i < 0 from c6))]⟩) (by decide) _ _ _ hSep hS (lv_sub hl [0, 1, 2] rfl)
    · refine lv_iconst (v := (nI 0)) hx hb dX4_told_9 (by decide) ?_
      refine lv_goto (tgt := 14) hx hb dX4_told_10 (by decide) ?_
      exact L14 0 (Or.inr ⟨rfl, ⟨c2, c6⟩⟩) (by decide) _ _ _ hSep hS (lv_sub hl [0, 1, 2] rfl)

set_option maxHeartbeats 600000 in
set_option maxRecDepth 100000 in
theorem m_X4_setting (l : Launch) (G : EVT) (F : Nat → Prop) (sz : Nat) (mo : Nat) (rf : Int32) (σ : MS) (x : Int32)  : Met l yX4_setting (ws_ yX4_setting cX4_setting 2 (some .int)) ({ frames := 1, cells := 0, slots := 0, locals := 25 } : Room) (SPc G F sz [.ref mo, .int x] [modA G mo rf σ] (fun _ => True)) (SQi G F sz (fun (r : Int32) (u : Unit) => (oSetting σ x).1 = 0 → r = (oSetting σ x).2.1) (fun (u : Unit) => [modA G mo (nI (oSetting σ x).1) (oSetting σ x).2.2])) (0) (0) (Fz F sz) := by
  refine sp_of RX4 (by decide) rfl (Nat.le_of_ble_eq_true rfl) ?_
  intro p e s m args below meth c ls QQ hx hb hr hts hown hlocks hml hnm hsz hSep hΦ hE hS hl hQ
  subst hsz
  have hK := hE.1
  have hl : lv_has ls 2 [(0, .ref mo), (1, .int x)] := hl
  obtain ⟨g, hs, kp, T⟩ := σ
  obtain ⟨aT, aN, aL, aP, aD, aK, aZ, aG, aB, aS, bl, bp, tl, fT, fN, fL, fP, fD, fK, fZ, fG, fB, fS, hC, hSep⟩ := mod_unpk hSep
  have hg : gV g := hC.1.1
  have ho : gOk g := hC.1.1.1
  have he : Enc fN g := hC.1.2
  have hT : Pre fT T := hC.2.2.2.1
  have hT20 : T.length ≤ 20 := hC.2.2.2.2.1
  have hT256 : ∀ w ∈ T, w < 256 := hC.2.2.2.2.2
  have hD14 : hs.length ≤ 14 := hC.2.1.1
  have L18 : ∀ (x9 : Nat) , ((x9 ≠ 0 ∧ oSetting (g, hs, kp, T) x = (x9, 0, (g, hs, kp, T))) ∨ (x9 = 0 ∧ inR x.toInt 0 3 = true)) → (x9 < 3) → ∀ (H : Heap) (locs : List Loc) (ls : Array Slot), Sep G.1 clA (Fz F s.heap.size) [pts mo (.inr (3, [.int rf, .ref aT, .int (nI T.length), .ref aN, .ref aL, .ref aP, .ref aD, .int (nI hs.length), .ref aK, .ref aZ, .ref aG, .ref aB, .int (nI bl), .int bp, .ref aS, .int (nI tl)])), pts aT (.inl (G.2.1 0, 20, .inl fT)), pts aN (.inl (G.2.1 0, 89, .inl fN)), pts aL (.inl (G.2.1 0, 89, .inl fL)), pts aP (.inl (G.2.1 0, 89, .inl fP)), pts aD (.inl (G.2.1 0, 1246, .inl fD)), pts aK (.inl (G.2.1 0, 178, .inl fK)), pts aZ (.inl (G.2.1 2, 2, .inl fZ)), pts aG (.inl (G.2.1 0, 18, .inl fG)), pts aB (.inl (G.2.1 0, 5, .inl fB)), pts aS (.inl (G.2.1 0, 5, .inl fS))] H → va_S (Fz F s.heap.size) s.heap H locs → lv_has ls 2 [(0, .ref mo), (1, .int x)] → W p l e ({ frames := 1, cells := 0, slots := 0, locals := 25 } : Room) s m args below meth c H locs (0) (0) QQ (F0 m 18 ls [.int (nI x9), .ref mo]) := by
    intro x9 hrf hx9 H locs ls hSep hS hl
    obtain ⟨Fk_1, hFk_1, hPk_1, hJk_1⟩ := hSep.cut (Pc := [pts mo (.inr (3, [.int rf, .ref aT, .int (nI T.length), .ref aN, .ref aL, .ref aP, .ref aD, .int (nI hs.length), .ref aK, .ref aZ, .ref aG, .ref aB, .int (nI bl), .int bp, .ref aS, .int (nI tl)]))]) (Pr := [pts aT (.inl (G.2.1 0, 20, .inl fT)), pts aN (.inl (G.2.1 0, 89, .inl fN)), pts aL (.inl (G.2.1 0, 89, .inl fL)), pts aP (.inl (G.2.1 0, 89, .inl fP)), pts aD (.inl (G.2.1 0, 1246, .inl fD)), pts aK (.inl (G.2.1 0, 178, .inl fK)), pts aZ (.inl (G.2.1 2, 2, .inl fZ)), pts aG (.inl (G.2.1 0, 18, .inl fG)), pts aB (.inl (G.2.1 0, 5, .inl fB)), pts aS (.inl (G.2.1 0, 5, .inl fS))]) (fun q h => Fz.new (Nat.le_trans hS.1 h)) [0] [1, 2, 3, 4, 5, 6, 7, 8, 9, 10] rfl rfl rfl rfl (by decide)
    refine c_i (va_runV (As := [.int (nI x9)]) (rest := []) ⟨hx, hb, hml, hown, hts⟩ (m_X4_refused l G Fk_1 H.size mo rf aT T.length aN aL aP aD hs.length aK aZ aG aB bl bp aS tl x9 (by omega)) (cwV 1 hts (lw_V q1535 q1537 qs21 q44 q1538) rfl rfl rfl (by decide +kernel) ⟨Nat.le_of_ble_eq_true rfl, Nat.le_of_ble_eq_true rfl⟩) (sp_preV hE hS hFk_1 hPk_1 trivial (sp_recv (ci := 3) hK (hSep.cel (k := 0) rfl) rfl)) rfl rfl hl.1 rfl (lv_room (Nat.le_of_ble_eq_true rfl)) dX4_setting_18 ⟨by first | exact Nat.le_of_ble_eq_true rfl | omega | (dsimp only; omega), by first | exact Nat.le_of_ble_eq_true rfl | omega | (dsimp only; omega)⟩) hS hFk_1 hJk_1 (fun r_2 u_3 H locs hpk_1 hSep hS hzk_1 => ?_)
    obtain rfl : r_2 = (bI (decide (0 < x9))) := hpk_1
    refine W.cs (cells' := 0) (slots' := 0) rfl rfl ?_
    have hSep : Sep G.1 clA (Fz F s.heap.size) [pts aT (.inl (G.2.1 0, 20, .inl fT)), pts aN (.inl (G.2.1 0, 89, .inl fN)), pts aL (.inl (G.2.1 0, 89, .inl fL)), pts aP (.inl (G.2.1 0, 89, .inl fP)), pts aD (.inl (G.2.1 0, 1246, .inl fD)), pts aK (.inl (G.2.1 0, 178, .inl fK)), pts aZ (.inl (G.2.1 2, 2, .inl fZ)), pts aG (.inl (G.2.1 0, 18, .inl fG)), pts aB (.inl (G.2.1 0, 5, .inl fB)), pts aS (.inl (G.2.1 0, 5, .inl fS)), pts mo (.inr (3, [.int (nI x9), .ref aT, .int (nI T.length), .ref aN, .ref aL, .ref aP, .ref aD, .int (nI hs.length), .ref aK, .ref aZ, .ref aG, .ref aB, .int (nI bl), .int bp, .ref aS, .int (nI tl)]))] H := hSep
    refine b_if_eq (tgt := 26) hx hb dX4_setting_21 (by decide) (fun c21 => ?_) (fun c21 => ?_)
    · obtain ⟨hx0, hgd⟩ := hrf.resolve_left (fun h => h.1 (by have := of_decide_eq_false c21; omega))
      subst hx0
      obtain ⟨n9, hn91, hn92, rfl⟩ := inR_n (n := 3) hgd
      refine lv_aload_n hx hb dX4_setting_26 rfl (lv_at hl 0 rfl) ?_
      refine va_get (D := G.1) (ci := 3) (v := .ref aN) (C := RX4) (T := TX4) (N := 16) hx hb hts in_X4 hown hK (hSep.cel (k := 10) rfl) 0 rfl rfl 3 (by decide) (hts _ q1476) (fun _ h9 => h9) rfl dX4_setting_27 ?_
      refine lv_bipush (v := (nI 7)) hx hb dX4_setting_30 (by decide) ?_
      refine lv_iload_n hx hb dX4_setting_32 rfl (lv_at hl 1 rfl) ?_
      refine n_iadd hx hb dX4_setting_33 ?_
      refine n_iald (i := 7 + n9) hx hb hK (hSep.cel (k := 1) rfl) 0 rfl (by omega) (by omega) dX4_setting_34 ?_
      refine n_eq (y := (g.1 (7 + n9))) (he.num (by omega)) ?_
      have hop : oSetting (g, hs, kp, T) (nI n9) = (0, (g.1 (7 + n9)), g, hs, kp, T) := by unfold oSetting; rw [if_neg (by rw [hgd]; decide), nI_toInt hn92, Int.toNat_natCast]
      rw [hQ]
      exact r_i (r := (g.1 (7 + n9))) (u := ()) hx hb hr (by rw [hop]; exact fun _ => rfl) (by rw [hop]; exact mod_close (hSep.pick [10, 0, 1, 2, 3, 4, 5, 6, 7, 8, 9] rfl rfl) rfl rfl rfl hC) hS (by first | exact Nat.le_of_ble_eq_true rfl | omega | (dsimp only; omega)) (by first | exact Nat.le_of_ble_eq_true rfl | omega | (dsimp only; omega)) dX4_setting_35 hlocks
    · obtain ⟨hx1, hop⟩ := hrf.resolve_right (fun h => absurd (of_decide_eq_true c21) (by rw [h.1]; decide))
      refine lv_iconst (v := (nI 0)) hx hb dX4_setting_24 (by decide) ?_
      rw [hQ]
      exact r_i (r := (nI 0)) (u := ()) hx hb hr (by rw [hop]; exact fun h => absurd h hx1) (by rw [hop]; exact mod_close (hSep.pick [10, 0, 1, 2, 3, 4, 5, 6, 7, 8, 9] rfl rfl) rfl rfl rfl hC) hS (by first | exact Nat.le_of_ble_eq_true rfl | omega | (dsimp only; omega)) (by first | exact Nat.le_of_ble_eq_true rfl | omega | (dsimp only; omega)) dX4_setting_25 hlocks
  refine lv_aload_n hx hb dX4_setting_0 rfl (lv_at hl 0 rfl) ?_
  refine lv_iload_n hx hb dX4_setting_1 rfl (lv_at hl 1 rfl) ?_
  refine lv_i2l hx hb dX4_setting_2 rfl ?_
  refine lv_lconst (v := 0) hx hb dX4_setting_3 (by decide) ?_
  refine lv_ldc2 (v := 3) hx hb hown (hts _ q1599) dX4_setting_4 ?_
  have hFk_4 : ∀ q, Fz (fun _ => False) s.heap.size q → (Fz F s.heap.size) q := fun q h => by rcases h with h | h; exact h.elim; exact Fz.new (Nat.le_trans hS.1 h)
  have hPk_4 : Sep G.1 clA (Fz (fun _ => False) s.heap.size) [] s.heap := sp_nil
  have hJk_4 := sp_nilJ (F := (fun _ => False)) hSep (fun _ => id) hFk_4
  refine c_i (va_runS (As := [.long x.toInt64, .long (0 : Int64), .long (3 : Int64)]) (rest := [.ref mo]) ⟨hx, hb, hml, hown, hts⟩ (m_X4_in l G s.heap.size x.toInt64 (0 : Int64) (3 : Int64) ) (va_cwS 3 hts (lw_S q1532 q1533 q44 q1534) rfl rfl rfl (by decide +kernel) ⟨Nat.le_of_ble_eq_true rfl, Nat.le_of_ble_eq_true rfl⟩) (sp_preS hE hS hFk_4 hPk_4 trivial) rfl rfl hl.1 rfl (lv_room (Nat.le_of_ble_eq_true rfl)) dX4_setting_7 ⟨by first | exact Nat.le_of_ble_eq_true rfl | omega | (dsimp only; omega), by first | exact Nat.le_of_ble_eq_true rfl | omega | (dsimp only; omega)⟩) hS hFk_4 hJk_4 (fun r_5 u_6 H locs hpk_4 hSep hS hzk_4 => ?_)
  obtain rfl : r_5 = (bI (inR x.toInt64.toInt (0 : Int64).toInt (3 : Int64).toInt)) := hpk_4
  refine W.cs (cells' := 0) (slots' := 0) rfl rfl ?_
  have hSep : Sep G.1 clA (Fz F s.heap.size) [pts mo (.inr (3, [.int rf, .ref aT, .int (nI T.length), .ref aN, .ref aL, .ref aP, .ref aD, .int (nI hs.length), .ref aK, .ref aZ, .ref aG, .ref aB, .int (nI bl), .int bp, .ref aS, .int (nI tl)])), pts aT (.inl (G.2.1 0, 20, .inl fT)), pts aN (.inl (G.2.1 0, 89, .inl fN)), pts aL (.inl (G.2.1 0, 89, .inl fL)), pts aP (.inl (G.2.1 0, 89, .inl fP)), pts aD (.inl (G.2.1 0, 1246, .inl fD)), pts aK (.inl (G.2.1 0, 178, .inl fK)), pts aZ (.inl (G.2.1 2, 2, .inl fZ)), pts aG (.inl (G.2.1 0, 18, .inl fG)), pts aB (.inl (G.2.1 0, 5, .inl fB)), pts aS (.inl (G.2.1 0, 5, .inl fS))] H := hSep
  refine n_eq (y := (bI (inR x.toInt 0 3))) (by rw [Int32.toInt_toInt64]; rfl) ?_
  refine b_if_eq (tgt := 17) hx hb dX4_setting_10 (by decide) (fun c10 => ?_) (fun c10 => ?_)
  · refine lv_iconst (v := (nI 1)) hx hb dX4_setting_17 (by decide) ?_
    exact L18 1 (Or.inl ⟨by decide, by unfold oSetting; rw [if_pos c10]⟩) (by decide) _ _ _ hSep hS (lv_sub hl [0, 1] rfl)
  · refine lv_iconst (v := (nI 0)) hx hb dX4_setting_13 (by decide) ?_
    refine lv_goto (tgt := 18) hx hb dX4_setting_14 (by decide) ?_
    exact L18 0 (Or.inr ⟨rfl, c10⟩) (by decide) _ _ _ hSep hS (lv_sub hl [0, 1] rfl)
