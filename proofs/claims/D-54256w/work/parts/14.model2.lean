set_option maxRecDepth 100000
set_option maxHeartbeats 600000 in
set_option maxRecDepth 100000 in
theorem m_X4_refused (l : Launch) (G : EVT) (F : Nat → Prop) (sz : Nat) (mo : Nat) (fR : Int32) (aT : Nat) (zs : Nat) (aN : Nat) (aL : Nat) (aP : Nat) (aD : Nat) (ac : Nat) (aK : Nat) (aZ : Nat) (aG : Nat) (aB : Nat) (bl : Nat) (bp : Int32) (aS : Nat) (tl : Nat) (wh : Nat) (hw : wh < 2147483648) : Met l yX4_refused (ws_ yX4_refused cX4_refused 2 (some .boolean)) ({ frames := 0, cells := 0, slots := 0, locals := 0 } : Room) (SPc G F sz [.ref mo, .int (nI wh)] [pts mo (.inr (3, [.int fR, .ref aT, .int (nI zs), .ref aN, .ref aL, .ref aP, .ref aD, .int (nI ac), .ref aK, .ref aZ, .ref aG, .ref aB, .int (nI bl), .int bp, .ref aS, .int (nI tl)]))] (fun _ => True)) (SQi G F sz (fun (r : Int32) (u : Unit) => r = (bI (decide (0 < wh)))) (fun (u : Unit) => [pts mo (.inr (3, [.int (nI wh), .ref aT, .int (nI zs), .ref aN, .ref aL, .ref aP, .ref aD, .int (nI ac), .ref aK, .ref aZ, .ref aG, .ref aB, .int (nI bl), .int bp, .ref aS, .int (nI tl)]))])) (0) (0) (Fz F sz) := by
  refine sp_of RX4 (by decide) rfl (Nat.le_of_ble_eq_true rfl) ?_
  intro p e s m args below meth c ls QQ hx hb hr hts hown hlocks hml hnm hsz hSep hΦ hE hS hl hQ
  subst hsz
  have hK := hE.1
  have hl : lv_has ls 2 [(0, .ref mo), (1, .int (nI wh))] := hl
  refine lv_aload_n hx hb dX4_refused_0 rfl (lv_at hl 0 rfl) ?_
  refine lv_iload_n hx hb dX4_refused_1 rfl (lv_at hl 1 rfl) ?_
  refine s_put (ci := 3) (v := .int (nI wh)) (ty := .int) (C := RX4) (T := TX4) (N := 16) hx hb hts in_X4 tyX4 tyX4_ok nmX4 hown hK hSep hS 0 rfl rfl 0 (by decide) (hts _ q1473) (fun _ h9 => h9) rfl (by decide +kernel) rfl rfl (Nat.le_of_ble_eq_true rfl) dX4_refused_2 (fun H locs hSep hS => ?_)
  have hSep : Sep G.1 clA (Fz F s.heap.size) [pts mo (.inr (3, [.int (nI wh), .ref aT, .int (nI zs), .ref aN, .ref aL, .ref aP, .ref aD, .int (nI ac), .ref aK, .ref aZ, .ref aG, .ref aB, .int (nI bl), .int bp, .ref aS, .int (nI tl)]))] H := hSep
  refine lv_iload_n hx hb dX4_refused_5 rfl (lv_at hl 1 rfl) ?_
  refine n_if_le (tgt := 13) hx hb (by omega) dX4_refused_6 (by decide) (fun c6 => ?_) (fun c6 => ?_)
  · refine lv_iconst (v := (nI 0)) hx hb dX4_refused_13 (by decide) ?_
    rw [hQ]
    exact r_z (r := (nI 0)) (u := ()) hx hb hr (by decide) (by first | exact (bI_dt (by omega)).symm | exact (bI_df (by omega)).symm) hSep hS (by first | exact Nat.le_of_ble_eq_true rfl | omega | (dsimp only; omega)) (by first | exact Nat.le_of_ble_eq_true rfl | omega | (dsimp only; omega)) dX4_refused_14 hlocks
  · refine lv_iconst (v := (nI 1)) hx hb dX4_refused_9 (by decide) ?_
    refine lv_goto (tgt := 14) hx hb dX4_refused_10 (by decide) ?_
    rw [hQ]
    exact r_z (r := (nI 1)) (u := ()) hx hb hr (by decide) (by first | exact (bI_dt (by omega)).symm | exact (bI_df (by omega)).symm) hSep hS (by first | exact Nat.le_of_ble_eq_true rfl | omega | (dsimp only; omega)) (by first | exact Nat.le_of_ble_eq_true rfl | omega | (dsimp only; omega)) dX4_refused_14 hlocks

set_option maxHeartbeats 600000 in
set_option maxRecDepth 100000 in
theorem m_X4_copyState (l : Launch) (G : EVT) (F : Nat → Prop) (sz : Nat) (aF : Nat) (nF : Nat) (fF : Nat → Int32) (iF : Nat) (aW : Nat) (nW : Nat) (fW : Nat → Int32) (iW : Nat) (h1 : iF + 89 ≤ nF) (h2 : iW + 89 ≤ nW) (h3 : nF < 2147483648) (h4 : nW < 2147483648) : Met l yX4_copyState (ws_ yX4_copyState cX4_copyState 5 none) ({ frames := 0, cells := 0, slots := 0, locals := 0 } : Room) (SPc G F sz [.ref aF, .int (nI iF), .ref aW, .int (nI iW)] [pts aF (.inl (G.2.1 0, nF, .inl fF)), pts aW (.inl (G.2.1 0, nW, .inl fW))] (fun _ => True)) (SQv G F sz (fun (u : Unit) => True) (fun (u : Unit) => [pts aF (.inl (G.2.1 0, nF, .inl fF)), pts aW (.inl (G.2.1 0, nW, .inl (va_cpy fF fW iF iW 89)))])) (0) (0) (Fz F sz) := by
  refine sp_of RX4 (by decide) rfl (Nat.le_of_ble_eq_true rfl) ?_
  intro p e s m args below meth c ls QQ hx hb hr hts hown hlocks hml hnm hsz hSep hΦ hE hS hl hQ
  subst hsz
  have hK := hE.1
  have hl : lv_has ls 5 [(0, .ref aF), (1, .int (nI iF)), (2, .ref aW), (3, .int (nI iW))] := hl
  refine lv_iconst (v := (nI 0)) hx hb dX4_copyState_0 (by decide) ?_
  refine lv_istore (lv' := [(4, .int (nI 0)), (0, .ref aF), (1, .int (nI iF)), (2, .ref aW), (3, .int (nI iW))]) hx hb dX4_copyState_1 hl (by decide) rfl (fun ls hl => ?_)
  have L3 : ∀ (fu : Nat) (k : Nat) (f2 : Nat → Int32) , 89 - k < fu → (k ≤ 89) → (f2 = va_cpy fF fW iF iW k) → ∀ (H : Heap) (locs : List Loc) (ls : Array Slot), Sep G.1 clA (Fz F s.heap.size) [pts aF (.inl (G.2.1 0, nF, .inl fF)), pts aW (.inl (G.2.1 0, nW, .inl f2))] H → va_S (Fz F s.heap.size) s.heap H locs → lv_has ls 5 [(4, .int (nI k)), (0, .ref aF), (1, .int (nI iF)), (2, .ref aW), (3, .int (nI iW))] → W p l e ({ frames := 0, cells := 0, slots := 0, locals := 0 } : Room) s m args below meth c H locs (0) (0) QQ (F0 m 3 ls []) := by
    intro fu
    induction fu with
    | zero => intro k f2 hm; exact absurd hm (Nat.not_lt_zero _)
    | succ fu ih3 =>
      intro k f2 hm3 hp3_0 hp3_1 H locs ls hSep hS hl
      refine lv_iload hx hb dX4_copyState_3 (lv_at hl 0 rfl) ?_
      refine lv_bipush (v := (nI 89)) hx hb dX4_copyState_5 (by decide) ?_
      refine n_icmp_ge (tgt := 28) hx hb (by omega) (by omega) dX4_copyState_7 (by decide) (fun c7 => ?_) (fun c7 => ?_)
      · obtain rfl : k = 89 := by omega
        subst hp3_1
        rw [hQ]
        exact r_v (u := ()) hx hb hr (trivial) hSep hS (by first | exact Nat.le_of_ble_eq_true rfl | omega | (dsimp only; omega)) (by first | exact Nat.le_of_ble_eq_true rfl | omega | (dsimp only; omega)) dX4_copyState_28 hlocks
      · refine lv_aload_n hx hb dX4_copyState_10 rfl (lv_at hl 3 rfl) ?_
        refine lv_iload_n hx hb dX4_copyState_11 rfl (lv_at hl 4 rfl) ?_
        refine lv_iload hx hb dX4_copyState_12 (lv_at hl 0 rfl) ?_
        refine n_iadd hx hb dX4_copyState_14 ?_
        refine lv_aload_n hx hb dX4_copyState_15 rfl (lv_at hl 1 rfl) ?_
        refine lv_iload_n hx hb dX4_copyState_16 rfl (lv_at hl 2 rfl) ?_
        refine lv_iload hx hb dX4_copyState_17 (lv_at hl 0 rfl) ?_
        refine n_iadd hx hb dX4_copyState_19 ?_
        refine n_iald (i := iF + k) hx hb hK (hSep.cel (k := 0) rfl) 0 rfl (by omega) (by omega) dX4_copyState_20 ?_
        refine n_iast (i := iW + k) (x := (fF (iF + k))) (y := (fF (iF + k))) hx hb hK hSep hS 1 rfl 0 rfl (by omega) (by omega) (rfl) dX4_copyState_21 (fun H locs hSep hS => ?_)
        have hSep : Sep G.1 clA (Fz F s.heap.size) [pts aF (.inl (G.2.1 0, nF, .inl fF)), pts aW (.inl (G.2.1 0, nW, .inl (upd f2 (iW + k) (fF (iF + k)))))] H := hSep
        refine lv_iinc (v := (nI (k + 1))) (lv' := [(4, .int (nI (k + 1))), (0, .ref aF), (1, .int (nI iF)), (2, .ref aW), (3, .int (nI iW))]) hx hb dX4_copyState_22 hl (k := 0) rfl (nI_inc k 1) (by decide) rfl (fun ls hl => ?_)
        refine lv_goto (tgt := 3) hx hb dX4_copyState_25 (by decide) ?_
        exact ih3 (k + 1) (upd f2 (iW + k) (fF (iF + k))) (by omega) (by omega) (by rw [hp3_1]; exact va_cpy_s _ _ _ _ _) _ _ _ hSep hS (lv_sub hl [0, 1, 2, 3, 4] rfl)
  exact L3 (89 - 0 + 1) 0 fW (Nat.lt_succ_self _) (Nat.zero_le _) ((va_cpy_0 _ _ _ _).symm) _ _ _ hSep hS (lv_sub hl [0, 1, 2, 3, 4] rfl)

set_option maxHeartbeats 600000 in
set_option maxRecDepth 100000 in
theorem m_X4_tryWord (l : Launch) (G : EVT) (F : Nat → Prop) (sz : Nat) (mo : Nat) (fR : Int32) (aT : Nat) (zs : Nat) (aN : Nat) (aL : Nat) (aP : Nat) (aD : Nat) (ac : Nat) (aK : Nat) (aZ : Nat) (aG : Nat) (aB : Nat) (bl : Nat) (bp : Int32) (aS : Nat) (tl : Nat) (w1 : Nat) (fS : Nat → Int32) (ht : tl < 5) : Met l yX4_tryWord (ws_ yX4_tryWord cX4_tryWord 2 none) ({ frames := 0, cells := 0, slots := 0, locals := 0 } : Room) (SPc G F sz [.ref mo, .int (nI w1)] [pts mo (.inr (3, [.int fR, .ref aT, .int (nI zs), .ref aN, .ref aL, .ref aP, .ref aD, .int (nI ac), .ref aK, .ref aZ, .ref aG, .ref aB, .int (nI bl), .int bp, .ref aS, .int (nI tl)])), pts aS (.inl (G.2.1 0, 5, .inl fS))] (fun _ => True)) (SQv G F sz (fun (u : Unit) => True) (fun (u : Unit) => [pts mo (.inr (3, [.int fR, .ref aT, .int (nI zs), .ref aN, .ref aL, .ref aP, .ref aD, .int (nI ac), .ref aK, .ref aZ, .ref aG, .ref aB, .int (nI bl), .int bp, .ref aS, .int (nI (tl + 1))])), pts aS (.inl (G.2.1 0, 5, .inl (upd fS tl (nI w1))))])) (0) (0) (Fz F sz) := by
  refine sp_of RX4 (by decide) rfl (Nat.le_of_ble_eq_true rfl) ?_
  intro p e s m args below meth c ls QQ hx hb hr hts hown hlocks hml hnm hsz hSep hΦ hE hS hl hQ
  subst hsz
  have hK := hE.1
  have hl : lv_has ls 2 [(0, .ref mo), (1, .int (nI w1))] := hl
  refine lv_aload_n hx hb dX4_tryWord_0 rfl (lv_at hl 0 rfl) ?_
  refine va_get (D := G.1) (ci := 3) (v := .ref aS) (C := RX4) (T := TX4) (N := 16) hx hb hts in_X4 hown hK (hSep.cel (k := 0) rfl) 0 rfl rfl 14 (by decide) (hts _ q1487) (fun _ h9 => h9) rfl dX4_tryWord_1 ?_
  refine lv_aload_n hx hb dX4_tryWord_4 rfl (lv_at hl 0 rfl) ?_
  refine va_get (D := G.1) (ci := 3) (v := .int (nI tl)) (C := RX4) (T := TX4) (N := 16) hx hb hts in_X4 hown hK (hSep.cel (k := 0) rfl) 0 rfl rfl 15 (by decide) (hts _ q1488) (fun _ h9 => h9) rfl dX4_tryWord_5 ?_
  refine lv_iload_n hx hb dX4_tryWord_8 rfl (lv_at hl 1 rfl) ?_
  refine n_iast (i := tl) (x := (nI w1)) (y := (nI w1)) hx hb hK hSep hS 1 rfl 0 rfl (by omega) (by omega) (rfl) dX4_tryWord_9 (fun H locs hSep hS => ?_)
  have hSep : Sep G.1 clA (Fz F s.heap.size) [pts mo (.inr (3, [.int fR, .ref aT, .int (nI zs), .ref aN, .ref aL, .ref aP, .ref aD, .int (nI ac), .ref aK, .ref aZ, .ref aG, .ref aB, .int (nI bl), .int bp, .ref aS, .int (nI tl)])), pts aS (.inl (G.2.1 0, 5, .inl (upd fS tl (nI w1))))] H := hSep
  refine lv_aload_n hx hb dX4_tryWord_10 rfl (lv_at hl 0 rfl) ?_
  refine lv_dup hx hb dX4_tryWord_11 rfl ?_
  refine va_get (D := G.1) (ci := 3) (v := .int (nI tl)) (C := RX4) (T := TX4) (N := 16) hx hb hts in_X4 hown hK (hSep.cel (k := 0) rfl) 0 rfl rfl 15 (by decide) (hts _ q1488) (fun _ h9 => h9) rfl dX4_tryWord_12 ?_
  refine lv_iconst (v := (nI 1)) hx hb dX4_tryWord_15 (by decide) ?_
  refine n_iadd hx hb dX4_tryWord_16 ?_
  refine s_put (ci := 3) (v := .int (nI (tl + 1))) (ty := .int) (C := RX4) (T := TX4) (N := 16) hx hb hts in_X4 tyX4 tyX4_ok nmX4 hown hK hSep hS 0 rfl rfl 15 (by decide) (hts _ q1488) (fun _ h9 => h9) rfl (by decide +kernel) rfl rfl (Nat.le_of_ble_eq_true rfl) dX4_tryWord_17 (fun H locs hSep hS => ?_)
  have hSep : Sep G.1 clA (Fz F s.heap.size) [pts mo (.inr (3, [.int fR, .ref aT, .int (nI zs), .ref aN, .ref aL, .ref aP, .ref aD, .int (nI ac), .ref aK, .ref aZ, .ref aG, .ref aB, .int (nI bl), .int bp, .ref aS, .int (nI (tl + 1))])), pts aS (.inl (G.2.1 0, 5, .inl (upd fS tl (nI w1))))] H := hSep
  rw [hQ]
  exact r_v (u := ()) hx hb hr (trivial) hSep hS (by first | exact Nat.le_of_ble_eq_true rfl | omega | (dsimp only; omega)) (by first | exact Nat.le_of_ble_eq_true rfl | omega | (dsimp only; omega)) dX4_tryWord_20 hlocks

set_option maxHeartbeats 600000 in
set_option maxRecDepth 100000 in
theorem m_X4_isBetter (l : Launch) (G : EVT) (sz : Nat) (mo : Nat) (fR : Int32) (aT : Nat) (zs : Nat) (aN : Nat) (aL : Nat) (aP : Nat) (aD : Nat) (ac : Nat) (aK : Nat) (aZ : Nat) (aG : Nat) (aB : Nat) (bl : Nat) (bp : Int32) (aS : Nat) (tl : Nat) (fS : Nat → Int32) (fB : Nat → Int32) (x1 : Nat) (s1 : List Nat) (b1 : List Nat) (P1 : Nat) (hs : Pre fS s1) (htl : tl = s1.length) (hbb : Pre fB b1) (hbl : bl = b1.length) (hbp : bp = ptI P1) (h5 : s1.length ≤ 5) (h6 : b1.length ≤ 5) (hx1 : x1 < 1000) (hP1 : P1 < 1000) (hsw : ∀ w ∈ s1, w < 18) (hbw : ∀ w ∈ b1, w < 18) : Met l yX4_isBetter (ws_ yX4_isBetter cX4_isBetter 3 (some .boolean)) ({ frames := 0, cells := 0, slots := 0, locals := 0 } : Room) (SPc G (fun _ => False) sz [.ref mo, .int (nI x1)] [] (fun H => va_P G.1 clA [(mo, .inr (3, [.int fR, .ref aT, .int (nI zs), .ref aN, .ref aL, .ref aP, .ref aD, .int (nI ac), .ref aK, .ref aZ, .ref aG, .ref aB, .int (nI bl), .int bp, .ref aS, .int (nI tl)])), (aS, .inl (G.2.1 0, 5, .inl fS)), (aB, .inl (G.2.1 0, 5, .inl fB))] H)) (SQi G (fun _ => False) sz (fun (r : Int32) (u : Unit) => r = (bI (isBetterB x1 s1 P1 b1))) (fun (u : Unit) => [])) (0) (0) (Fz (fun _ => False) sz) := by
  refine sp_of RX4 (by decide) rfl (Nat.le_of_ble_eq_true rfl) ?_
  intro p e s m args below meth c ls QQ hx hb hr hts hown hlocks hml hnm hsz hSep hΦ hE hS hl hQ
  subst hsz
  have hK := hE.1
  have hl : lv_has ls 3 [(0, .ref mo), (1, .int (nI x1))] := hl
  subst hbp
  subst htl
  subst hbl
  refine lv_iload_n hx hb dX4_isBetter_0 rfl (lv_at hl 1 rfl) ?_
  refine lv_aload_n hx hb dX4_isBetter_1 rfl (lv_at hl 0 rfl) ?_
  refine va_get (D := G.1) (ci := 3) (v := .int (ptI P1)) (C := RX4) (T := TX4) (N := 16) hx hb hts in_X4 hown hK (ro0 hΦ hS) 0 rfl rfl 13 (by decide) (hts _ q1486) (fun _ h9 => h9) rfl dX4_isBetter_2 ?_
  refine lv_icmp_eq (tgt := 22) hx hb dX4_isBetter_5 (by decide) (fun c5 => ?_) (fun c5 => ?_)
  · rw [ptI_eq (by omega) (by omega)] at c5
    refine lv_aload_n hx hb dX4_isBetter_22 rfl (lv_at hl 0 rfl) ?_
    refine va_get (D := G.1) (ci := 3) (v := .int (nI s1.length)) (C := RX4) (T := TX4) (N := 16) hx hb hts in_X4 hown hK (ro0 hΦ hS) 0 rfl rfl 15 (by decide) (hts _ q1488) (fun _ h9 => h9) rfl dX4_isBetter_23 ?_
    refine lv_aload_n hx hb dX4_isBetter_26 rfl (lv_at hl 0 rfl) ?_
    refine va_get (D := G.1) (ci := 3) (v := .int (nI b1.length)) (C := RX4) (T := TX4) (N := 16) hx hb hts in_X4 hown hK (ro0 hΦ hS) 0 rfl rfl 12 (by decide) (hts _ q1485) (fun _ h9 => h9) rfl dX4_isBetter_27 ?_
    refine n_icmp_eq (tgt := 50) hx hb (by omega) (by omega) dX4_isBetter_30 (by decide) (fun c30 => ?_) (fun c30 => ?_)
    · refine lv_iconst (v := (nI 0)) hx hb dX4_isBetter_50 (by decide) ?_
      refine lv_istore_n (lv' := [(2, .int (nI 0)), (0, .ref mo), (1, .int (nI x1))]) hx hb dX4_isBetter_51 rfl hl (by decide) rfl (fun ls hl => ?_)
      have L52 : ∀ (fu : Nat) (k : Nat) , s1.length - k < fu → (k ≤ s1.length) → (∀ j, j < k → s1.getD j 0 = b1.getD j 0) → ∀ (H : Heap) (locs : List Loc) (ls : Array Slot), Sep G.1 clA (Fz (fun _ => False) s.heap.size) [] H → va_S (Fz (fun _ => False) s.heap.size) s.heap H locs → lv_has ls 3 [(2, .int (nI k)), (0, .ref mo), (1, .int (nI x1))] → W p l e ({ frames := 0, cells := 0, slots := 0, locals := 0 } : Room) s m args below meth c H locs (0) (0) QQ (F0 m 52 ls []) := by
        intro fu
        induction fu with
        | zero => intro k hm; exact absurd hm (Nat.not_lt_zero _)
        | succ fu ih52 =>
          intro k hm52 hp52_0 hp52_1 H locs ls hSep hS hl
          refine lv_iload_n hx hb dX4_isBetter_52 rfl (lv_at hl 0 rfl) ?_
          refine lv_aload_n hx hb dX4_isBetter_53 rfl (lv_at hl 1 rfl) ?_
          refine va_get (D := G.1) (ci := 3) (v := .int (nI s1.length)) (C := RX4) (T := TX4) (N := 16) hx hb hts in_X4 hown hK (ro0 hΦ hS) 0 rfl rfl 15 (by decide) (hts _ q1488) (fun _ h9 => h9) rfl dX4_isBetter_54 ?_
          refine n_icmp_ge (tgt := 102) hx hb (by omega) (by omega) dX4_isBetter_57 (by decide) (fun c57 => ?_) (fun c57 => ?_)
          · refine lv_iconst (v := (nI 0)) hx hb dX4_isBetter_102 (by decide) ?_
            rw [hQ]
            exact r_z (r := (nI 0)) (u := ()) hx hb hr (by decide) (by unfold isBetterB; rw [show decide (P1 < x1 + 1) = false from decide_eq_false (by omega), show decide (x1 + 1 = P1) = true from decide_eq_true (by omega), show decide (s1.length < b1.length) = false from decide_eq_false (by omega), show decide (s1.length = b1.length) = true from decide_eq_true (by omega)]; have h8 : s1 = b1 := List.ext_getElem (by omega) (fun j h1 h2 => by have h9 := hp52_1 j (by omega); rw [List.getD_eq_getElem?_getD, List.getD_eq_getElem?_getD, List.getElem?_eq_getElem h1, List.getElem?_eq_getElem h2] at h9; exact h9); subst h8; cases h9 : lexLtB s1 s1; rfl; exact absurd ((lexLtB_iff _ _).mp h9) (lexLt_irr _)) hSep hS (by first | exact Nat.le_of_ble_eq_true rfl | omega | (dsimp only; omega)) (by first | exact Nat.le_of_ble_eq_true rfl | omega | (dsimp only; omega)) dX4_isBetter_103 hlocks
          · refine lv_aload_n hx hb dX4_isBetter_60 rfl (lv_at hl 1 rfl) ?_
            refine va_get (D := G.1) (ci := 3) (v := .ref aS) (C := RX4) (T := TX4) (N := 16) hx hb hts in_X4 hown hK (ro0 hΦ hS) 0 rfl rfl 14 (by decide) (hts _ q1487) (fun _ h9 => h9) rfl dX4_isBetter_61 ?_
            refine lv_iload_n hx hb dX4_isBetter_64 rfl (lv_at hl 0 rfl) ?_
            refine n_iald (i := k) hx hb hK ((ro0 hΦ hS).sub [1] rfl) 0 rfl (by omega) (by omega) dX4_isBetter_65 ?_
            refine n_eq (y := (nI (s1.getD k 0))) (hs k (by omega)) ?_
            refine lv_aload_n hx hb dX4_isBetter_66 rfl (lv_at hl 1 rfl) ?_
            refine va_get (D := G.1) (ci := 3) (v := .ref aB) (C := RX4) (T := TX4) (N := 16) hx hb hts in_X4 hown hK (ro0 hΦ hS) 0 rfl rfl 11 (by decide) (hts _ q1484) (fun _ h9 => h9) rfl dX4_isBetter_67 ?_
            refine lv_iload_n hx hb dX4_isBetter_70 rfl (lv_at hl 0 rfl) ?_
            refine n_iald (i := k) hx hb hK ((ro0 hΦ hS).sub [2] rfl) 0 rfl (by omega) (by omega) dX4_isBetter_71 ?_
            refine n_eq (y := (nI (b1.getD k 0))) (hbb k (by omega)) ?_
            refine n_icmp_eq (tgt := 96) hx hb (by have h8 := getD_lt hsw (k := k) (by omega); have h9 := getD_lt hbw (k := k) (by omega); omega) (by have h8 := getD_lt hsw (k := k) (by omega); have h9 := getD_lt hbw (k := k) (by omega); omega) dX4_isBetter_72 (by decide) (fun c72 => ?_) (fun c72 => ?_)
            · refine lv_iinc (v := (nI (k + 1))) (lv' := [(2, .int (nI (k + 1))), (0, .ref mo), (1, .int (nI x1))]) hx hb dX4_isBetter_96 hl (k := 0) rfl (nI_inc k 1) (by decide) rfl (fun ls hl => ?_)
              refine lv_goto (tgt := 52) hx hb dX4_isBetter_99 (by decide) ?_
              exact ih52 (k + 1) (by omega) (by omega) (fun j h => by rcases Nat.lt_succ_iff_lt_or_eq.mp h with z | z; exact hp52_1 j z; rw [z]; exact c72) _ _ _ hSep hS (lv_sub hl [0, 1, 2] rfl)
            · refine lv_aload_n hx hb dX4_isBetter_75 rfl (lv_at hl 1 rfl) ?_
              refine va_get (D := G.1) (ci := 3) (v := .ref aS) (C := RX4) (T := TX4) (N := 16) hx hb hts in_X4 hown hK (ro0 hΦ hS) 0 rfl rfl 14 (by decide) (hts _ q1487) (fun _ h9 => h9) rfl dX4_isBetter_76 ?_
              refine lv_iload_n hx hb dX4_isBetter_79 rfl (lv_at hl 0 rfl) ?_
              refine n_iald (i := k) hx hb hK ((ro0 hΦ hS).sub [1] rfl) 0 rfl (by omega) (by omega) dX4_isBetter_80 ?_
              refine n_eq (y := (nI (s1.getD k 0))) (hs k (by omega)) ?_
              refine lv_aload_n hx hb dX4_isBetter_81 rfl (lv_at hl 1 rfl) ?_
              refine va_get (D := G.1) (ci := 3) (v := .ref aB) (C := RX4) (T := TX4) (N := 16) hx hb hts in_X4 hown hK (ro0 hΦ hS) 0 rfl rfl 11 (by decide) (hts _ q1484) (fun _ h9 => h9) rfl dX4_isBetter_82 ?_
              refine lv_iload_n hx hb dX4_isBetter_85 rfl (lv_at hl 0 rfl) ?_
              refine n_iald (i := k) hx hb hK ((ro0 hΦ hS).sub [2] rfl) 0 rfl (by omega) (by omega) dX4_isBetter_86 ?_
              refine n_eq (y := (nI (b1.getD k 0))) (hbb k (by omega)) ?_
              refine n_icmp_ge (tgt := 94) hx hb (by have h8 := getD_lt hsw (k := k) (by omega); have h9 := getD_lt hbw (k := k) (by omega); omega) (by have h8 := getD_lt hsw (k := k) (by omega); have h9 := getD_lt hbw (k := k) (by omega); omega) dX4_isBetter_87 (by decide) (fun c87 => ?_) (fun c87 => ?_)
              · refine lv_iconst (v := (nI 0)) hx hb dX4_isBetter_94 (by decide) ?_
                rw [hQ]
                exact r_z (r := (nI 0)) (u := ()) hx hb hr (by decide) (by unfold isBetterB; rw [show decide (P1 < x1 + 1) = false from decide_eq_false (by omega), show decide (x1 + 1 = P1) = true from decide_eq_true (by omega), show decide (s1.length < b1.length) = false from decide_eq_false (by omega), show decide (s1.length = b1.length) = true from decide_eq_true (by omega)]; have h8 := lexLt_at s1 b1 k (by omega) (by omega) (fun j h => hp52_1 j h) c72; rw [← lexLtB_iff] at h8; first | (rw [h8.mpr (by omega)]; rfl) | (cases h9 : lexLtB s1 b1; rfl; exact absurd (h8.mp h9) (by omega))) hSep hS (by first | exact Nat.le_of_ble_eq_true rfl | omega | (dsimp only; omega)) (by first | exact Nat.le_of_ble_eq_true rfl | omega | (dsimp only; omega)) dX4_isBetter_95 hlocks
              · refine lv_iconst (v := (nI 1)) hx hb dX4_isBetter_90 (by decide) ?_
                refine lv_goto (tgt := 95) hx hb dX4_isBetter_91 (by decide) ?_
                rw [hQ]
                exact r_z (r := (nI 1)) (u := ()) hx hb hr (by decide) (by unfold isBetterB; rw [show decide (P1 < x1 + 1) = false from decide_eq_false (by omega), show decide (x1 + 1 = P1) = true from decide_eq_true (by omega), show decide (s1.length < b1.length) = false from decide_eq_false (by omega), show decide (s1.length = b1.length) = true from decide_eq_true (by omega)]; have h8 := lexLt_at s1 b1 k (by omega) (by omega) (fun j h => hp52_1 j h) c72; rw [← lexLtB_iff] at h8; first | (rw [h8.mpr (by omega)]; rfl) | (cases h9 : lexLtB s1 b1; rfl; exact absurd (h8.mp h9) (by omega))) hSep hS (by first | exact Nat.le_of_ble_eq_true rfl | omega | (dsimp only; omega)) (by first | exact Nat.le_of_ble_eq_true rfl | omega | (dsimp only; omega)) dX4_isBetter_95 hlocks
      exact L52 (s1.length - 0 + 1) 0 (Nat.lt_succ_self _) (Nat.zero_le _) (fun j h => absurd h (Nat.not_lt_zero _)) _ _ _ hSep hS (lv_sub hl [0, 1, 2] rfl)
    · refine lv_aload_n hx hb dX4_isBetter_33 rfl (lv_at hl 0 rfl) ?_
      refine va_get (D := G.1) (ci := 3) (v := .int (nI s1.length)) (C := RX4) (T := TX4) (N := 16) hx hb hts in_X4 hown hK (ro0 hΦ hS) 0 rfl rfl 15 (by decide) (hts _ q1488) (fun _ h9 => h9) rfl dX4_isBetter_34 ?_
      refine lv_aload_n hx hb dX4_isBetter_37 rfl (lv_at hl 0 rfl) ?_
      refine va_get (D := G.1) (ci := 3) (v := .int (nI b1.length)) (C := RX4) (T := TX4) (N := 16) hx hb hts in_X4 hown hK (ro0 hΦ hS) 0 rfl rfl 12 (by decide) (hts _ q1485) (fun _ h9 => h9) rfl dX4_isBetter_38 ?_
      refine n_icmp_ge (tgt := 48) hx hb (by omega) (by omega) dX4_isBetter_41 (by decide) (fun c41 => ?_) (fun c41 => ?_)
      · refine lv_iconst (v := (nI 0)) hx hb dX4_isBetter_48 (by decide) ?_
        rw [hQ]
        exact r_z (r := (nI 0)) (u := ()) hx hb hr (by decide) (by unfold isBetterB; rw [show decide (P1 < x1 + 1) = false from decide_eq_false (by omega), show decide (x1 + 1 = P1) = true from decide_eq_true (by omega)]; first | (rw [show decide (s1.length < b1.length) = true from decide_eq_true (by omega)]; rfl) | (rw [show decide (s1.length < b1.length) = false from decide_eq_false (by omega), show decide (s1.length = b1.length) = false from decide_eq_false (by omega)]; rfl)) hSep hS (by first | exact Nat.le_of_ble_eq_true rfl | omega | (dsimp only; omega)) (by first | exact Nat.le_of_ble_eq_true rfl | omega | (dsimp only; omega)) dX4_isBetter_49 hlocks
      · refine lv_iconst (v := (nI 1)) hx hb dX4_isBetter_44 (by decide) ?_
        refine lv_goto (tgt := 49) hx hb dX4_isBetter_45 (by decide) ?_
        rw [hQ]
        exact r_z (r := (nI 1)) (u := ()) hx hb hr (by decide) (by unfold isBetterB; rw [show decide (P1 < x1 + 1) = false from decide_eq_false (by omega), show decide (x1 + 1 = P1) = true from decide_eq_true (by omega)]; first | (rw [show decide (s1.length < b1.length) = true from decide_eq_true (by omega)]; rfl) | (rw [show decide (s1.length < b1.length) = false from decide_eq_false (by omega), show decide (s1.length = b1.length) = false from decide_eq_false (by omega)]; rfl)) hSep hS (by first | exact Nat.le_of_ble_eq_true rfl | omega | (dsimp only; omega)) (by first | exact Nat.le_of_ble_eq_true rfl | omega | (dsimp only; omega)) dX4_isBetter_49 hlocks
  · rw [ptI_eq (by omega) (by omega)] at c5
    refine lv_iload_n hx hb dX4_isBetter_8 rfl (lv_at hl 1 rfl) ?_
    refine lv_aload_n hx hb dX4_isBetter_9 rfl (lv_at hl 0 rfl) ?_
    refine va_get (D := G.1) (ci := 3) (v := .int (ptI P1)) (C := RX4) (T := TX4) (N := 16) hx hb hts in_X4 hown hK (ro0 hΦ hS) 0 rfl rfl 13 (by decide) (hts _ q1486) (fun _ h9 => h9) rfl dX4_isBetter_10 ?_
    refine lv_icmp_le (tgt := 20) hx hb dX4_isBetter_13 (by decide) (fun c13 => ?_) (fun c13 => ?_)
    · rw [ptI_le (by omega) (by omega)] at c13
      refine lv_iconst (v := (nI 0)) hx hb dX4_isBetter_20 (by decide) ?_
      rw [hQ]
      exact r_z (r := (nI 0)) (u := ()) hx hb hr (by decide) (by unfold isBetterB; first | (rw [show decide (P1 < x1 + 1) = true from decide_eq_true (by omega)]; rfl) | (rw [show decide (P1 < x1 + 1) = false from decide_eq_false (by omega), show decide (x1 + 1 = P1) = false from decide_eq_false (by omega)]; rfl)) hSep hS (by first | exact Nat.le_of_ble_eq_true rfl | omega | (dsimp only; omega)) (by first | exact Nat.le_of_ble_eq_true rfl | omega | (dsimp only; omega)) dX4_isBetter_21 hlocks
    · rw [ptI_le (by omega) (by omega)] at c13
      refine lv_iconst (v := (nI 1)) hx hb dX4_isBetter_16 (by decide) ?_
      refine lv_goto (tgt := 21) hx hb dX4_isBetter_17 (by decide) ?_
      rw [hQ]
      exact r_z (r := (nI 1)) (u := ()) hx hb hr (by decide) (by unfold isBetterB; first | (rw [show decide (P1 < x1 + 1) = true from decide_eq_true (by omega)]; rfl) | (rw [show decide (P1 < x1 + 1) = false from decide_eq_false (by omega), show decide (x1 + 1 = P1) = false from decide_eq_false (by omega)]; rfl)) hSep hS (by first | exact Nat.le_of_ble_eq_true rfl | omega | (dsimp only; omega)) (by first | exact Nat.le_of_ble_eq_true rfl | omega | (dsimp only; omega)) dX4_isBetter_21 hlocks
