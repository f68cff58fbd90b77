set_option maxRecDepth 100000
set_option maxHeartbeats 600000 in
set_option maxRecDepth 100000 in
theorem m_X4_remember (l : Launch) (G : EVT) (F : Nat → Prop) (sz : Nat) (mo : Nat) (fR : Int32) (aT : Nat) (zs : Nat) (aN : Nat) (aL : Nat) (aP : Nat) (aD : Nat) (ac : Nat) (aK : Nat) (aZ : Nat) (aG : Nat) (aB : Nat) (bl : Nat) (bp : Int32) (aS : Nat) (tl : Nat) (hs : List GS) (g : GS) (fN : Nat → Int32) (fD : Nat → Int32) (hac : ac = hs.length) (hH : histC hs fD) (he : Enc fN g) (hg : gV g) : Met l yX4_remember (ws_ yX4_remember cX4_remember 2 none) ({ frames := 1, cells := 0, slots := 0, locals := 24 } : Room) (SPc G F sz [.ref mo] [pts mo (.inr (3, [.int fR, .ref aT, .int (nI zs), .ref aN, .ref aL, .ref aP, .ref aD, .int (nI ac), .ref aK, .ref aZ, .ref aG, .ref aB, .int (nI bl), .int bp, .ref aS, .int (nI tl)])), pts aN (.inl (G.2.1 0, 89, .inl fN)), pts aD (.inl (G.2.1 0, 1246, .inl fD))] (fun _ => True)) (SQv G F sz (fun (u : (Nat → Int32)) => histC (pushH hs g) u) (fun (u : (Nat → Int32)) => [pts mo (.inr (3, [.int fR, .ref aT, .int (nI zs), .ref aN, .ref aL, .ref aP, .ref aD, .int (nI ((pushH hs g).length)), .ref aK, .ref aZ, .ref aG, .ref aB, .int (nI bl), .int bp, .ref aS, .int (nI tl)])), pts aN (.inl (G.2.1 0, 89, .inl fN)), pts aD (.inl (G.2.1 0, 1246, .inl u))])) (0) (0) (Fz F sz) := by
  refine sp_of RX4 (by decide) rfl (Nat.le_of_ble_eq_true rfl) ?_
  intro p e s m args below meth c ls QQ hx hb hr hts hown hlocks hml hnm hsz hSep hΦ hE hS hl hQ
  subst hsz
  have hK := hE.1
  have hl : lv_has ls 2 [(0, .ref mo)] := hl
  subst hac
  have h14 := hH.1
  refine lv_aload_n hx hb dX4_remember_0 rfl (lv_at hl 0 rfl) ?_
  have L49 : ∀ (h2 : List GS) (f2 : Nat → Int32) , (h2 = if hs.length = 14 then hs.tail else hs) → (histC h2 f2) → (h2.length ≤ 13) → ∀ (H : Heap) (locs : List Loc) (ls : Array Slot), Sep G.1 clA (Fz F s.heap.size) [pts mo (.inr (3, [.int fR, .ref aT, .int (nI zs), .ref aN, .ref aL, .ref aP, .ref aD, .int (nI h2.length), .ref aK, .ref aZ, .ref aG, .ref aB, .int (nI bl), .int bp, .ref aS, .int (nI tl)])), pts aN (.inl (G.2.1 0, 89, .inl fN)), pts aD (.inl (G.2.1 0, 1246, .inl f2))] H → va_S (Fz F s.heap.size) s.heap H locs → lv_has ls 2 [(0, .ref mo)] → W p l e ({ frames := 1, cells := 0, slots := 0, locals := 24 } : Room) s m args below meth c H locs (0) (0) QQ (F0 m 49 ls []) := by
    intro h2 f2 hp49_0 hp49_1 hp49_2 H locs ls hSep hS hl
    refine lv_aload_n hx hb dX4_remember_49 rfl (lv_at hl 0 rfl) ?_
    refine va_get (D := G.1) (ci := 3) (v := .ref aN) (C := RX4) (T := TX4) (N := 16) hx hb hts in_X4 hown hK (hSep.cel (k := 0) rfl) 0 rfl rfl 3 (by decide) (hts _ q1476) (fun _ h9 => h9) rfl dX4_remember_50 ?_
    refine lv_iconst (v := (nI 0)) hx hb dX4_remember_53 (by decide) ?_
    refine lv_aload_n hx hb dX4_remember_54 rfl (lv_at hl 0 rfl) ?_
    refine va_get (D := G.1) (ci := 3) (v := .ref aD) (C := RX4) (T := TX4) (N := 16) hx hb hts in_X4 hown hK (hSep.cel (k := 0) rfl) 0 rfl rfl 6 (by decide) (hts _ q1479) (fun _ h9 => h9) rfl dX4_remember_55 ?_
    refine lv_bipush (v := (nI 89)) hx hb dX4_remember_58 (by decide) ?_
    refine lv_aload_n hx hb dX4_remember_60 rfl (lv_at hl 0 rfl) ?_
    refine va_get (D := G.1) (ci := 3) (v := .int (nI h2.length)) (C := RX4) (T := TX4) (N := 16) hx hb hts in_X4 hown hK (hSep.cel (k := 0) rfl) 0 rfl rfl 7 (by decide) (hts _ q1480) (fun _ h9 => h9) rfl dX4_remember_61 ?_
    refine n_imul hx hb dX4_remember_64 ?_
    obtain ⟨Fk_1, hFk_1, hPk_1, hJk_1⟩ := hSep.cut (Pc := [pts aN (.inl (G.2.1 0, 89, .inl fN)), pts aD (.inl (G.2.1 0, 1246, .inl f2))]) (Pr := [pts mo (.inr (3, [.int fR, .ref aT, .int (nI zs), .ref aN, .ref aL, .ref aP, .ref aD, .int (nI h2.length), .ref aK, .ref aZ, .ref aG, .ref aB, .int (nI bl), .int bp, .ref aS, .int (nI tl)]))]) (fun q h => Fz.new (Nat.le_trans hS.1 h)) [1, 2] [0] rfl rfl rfl rfl (by decide)
    refine c_v (va_runS (As := [.ref aN, .int (nI 0), .ref aD, .int (nI (89 * h2.length))]) (rest := []) ⟨hx, hb, hml, hown, hts⟩ (m_X4_copyState l G Fk_1 H.size aN 89 fN 0 aD 1246 f2 (89 * h2.length) (by decide) (by omega) (by decide) (by decide)) (va_cwS 4 hts (lw_S q1616 q1617 q44 q1618) rfl rfl rfl (by decide +kernel) ⟨Nat.le_of_ble_eq_true rfl, Nat.le_of_ble_eq_true rfl⟩) (sp_preS hE hS hFk_1 hPk_1 trivial) rfl rfl hl.1 rfl (lv_room (Nat.le_of_ble_eq_true rfl)) dX4_remember_65 ⟨by first | exact Nat.le_of_ble_eq_true rfl | omega | (dsimp only; omega), by first | exact Nat.le_of_ble_eq_true rfl | omega | (dsimp only; omega)⟩) hS hFk_1 hJk_1 (fun u_3 H locs hpk_1 hSep hS hzk_1 => ?_)
    refine W.cs (cells' := 0) (slots' := 0) rfl rfl ?_
    have hSep : Sep G.1 clA (Fz F s.heap.size) [pts mo (.inr (3, [.int fR, .ref aT, .int (nI zs), .ref aN, .ref aL, .ref aP, .ref aD, .int (nI h2.length), .ref aK, .ref aZ, .ref aG, .ref aB, .int (nI bl), .int bp, .ref aS, .int (nI tl)])), pts aN (.inl (G.2.1 0, 89, .inl fN)), pts aD (.inl (G.2.1 0, 1246, .inl (va_cpy fN f2 0 (89 * h2.length) 89)))] H := hSep
    refine lv_aload_n hx hb dX4_remember_68 rfl (lv_at hl 0 rfl) ?_
    refine lv_dup hx hb dX4_remember_69 rfl ?_
    refine va_get (D := G.1) (ci := 3) (v := .int (nI h2.length)) (C := RX4) (T := TX4) (N := 16) hx hb hts in_X4 hown hK (hSep.cel (k := 0) rfl) 0 rfl rfl 7 (by decide) (hts _ q1480) (fun _ h9 => h9) rfl dX4_remember_70 ?_
    refine lv_iconst (v := (nI 1)) hx hb dX4_remember_73 (by decide) ?_
    refine n_iadd hx hb dX4_remember_74 ?_
    refine s_put (ci := 3) (v := .int (nI (h2.length + 1))) (ty := .int) (C := RX4) (T := TX4) (N := 16) hx hb hts in_X4 tyX4 tyX4_ok nmX4 hown hK hSep hS 0 rfl rfl 7 (by decide) (hts _ q1480) (fun _ h9 => h9) rfl (by decide +kernel) rfl rfl (Nat.le_of_ble_eq_true rfl) dX4_remember_75 (fun H locs hSep hS => ?_)
    have hSep : Sep G.1 clA (Fz F s.heap.size) [pts mo (.inr (3, [.int fR, .ref aT, .int (nI zs), .ref aN, .ref aL, .ref aP, .ref aD, .int (nI (h2.length + 1)), .ref aK, .ref aZ, .ref aG, .ref aB, .int (nI bl), .int bp, .ref aS, .int (nI tl)])), pts aN (.inl (G.2.1 0, 89, .inl fN)), pts aD (.inl (G.2.1 0, 1246, .inl (va_cpy fN f2 0 (89 * h2.length) 89)))] H := hSep
    have hpu : pushH hs g = h2 ++ [g] := by unfold pushH; rw [hp49_0]
    have hl2 : (pushH hs g).length = h2.length + 1 := by rw [hpu]; simp
    rw [hQ]
    exact r_v (u := va_cpy fN f2 0 (89 * h2.length) 89) hx hb hr (by rw [hpu]; exact hp49_1.push hp49_2 he hg) (by rw [hl2]; exact hSep.pick [0, 1, 2] rfl rfl) hS (by first | exact Nat.le_of_ble_eq_true rfl | omega | (dsimp only; omega)) (by first | exact Nat.le_of_ble_eq_true rfl | omega | (dsimp only; omega)) dX4_remember_78 hlocks
  refine va_get (D := G.1) (ci := 3) (v := .int (nI hs.length)) (C := RX4) (T := TX4) (N := 16) hx hb hts in_X4 hown hK (hSep.cel (k := 0) rfl) 0 rfl rfl 7 (by decide) (hts _ q1480) (fun _ h9 => h9) rfl dX4_remember_1 ?_
  refine lv_bipush (v := (nI 14)) hx hb dX4_remember_4 (by decide) ?_
  refine n_icmp_ne (tgt := 49) hx hb (by omega) (by omega) dX4_remember_6 (by decide) (fun c6 => ?_) (fun c6 => ?_)
  · exact L49 hs fD ((if_neg c6).symm) (hH) (by omega) _ _ _ hSep hS (lv_sub hl [0] rfl)
  · refine lv_iconst (v := (nI 0)) hx hb dX4_remember_9 (by decide) ?_
    refine lv_istore_n (lv' := [(1, .int (nI 0)), (0, .ref mo)]) hx hb dX4_remember_10 rfl hl (by decide) rfl (fun ls hl => ?_)
    have L11 : ∀ (fu : Nat) (k : Nat) (f9 : Nat → Int32) , 1157 - k < fu → (k ≤ 1157) → (∀ i, i < k → f9 i = fD (i + 89)) → (∀ i, k ≤ i → f9 i = fD i) → ∀ (H : Heap) (locs : List Loc) (ls : Array Slot), Sep G.1 clA (Fz F s.heap.size) [pts mo (.inr (3, [.int fR, .ref aT, .int (nI zs), .ref aN, .ref aL, .ref aP, .ref aD, .int (nI hs.length), .ref aK, .ref aZ, .ref aG, .ref aB, .int (nI bl), .int bp, .ref aS, .int (nI tl)])), pts aN (.inl (G.2.1 0, 89, .inl fN)), pts aD (.inl (G.2.1 0, 1246, .inl f9))] H → va_S (Fz F s.heap.size) s.heap H locs → lv_has ls 2 [(1, .int (nI k)), (0, .ref mo)] → W p l e ({ frames := 1, cells := 0, slots := 0, locals := 24 } : Room) s m args below meth c H locs (0) (0) QQ (F0 m 11 ls []) := by
      intro fu
      induction fu with
      | zero => intro k f9 hm; exact absurd hm (Nat.not_lt_zero _)
      | succ fu ih11 =>
        intro k f9 hm11 hp11_0 hp11_1 hp11_2 H locs ls hSep hS hl
        refine lv_iload_n hx hb dX4_remember_11 rfl (lv_at hl 0 rfl) ?_
        refine lv_sipush (v := (nI 1157)) hx hb dX4_remember_12 (by decide) ?_
        refine n_icmp_ge (tgt := 39) hx hb (by omega) (by omega) dX4_remember_15 (by decide) (fun c15 => ?_) (fun c15 => ?_)
        · obtain rfl : k = 1157 := by omega
          refine lv_aload_n hx hb dX4_remember_39 rfl (lv_at hl 1 rfl) ?_
          refine lv_dup hx hb dX4_remember_40 rfl ?_
          refine va_get (D := G.1) (ci := 3) (v := .int (nI hs.length)) (C := RX4) (T := TX4) (N := 16) hx hb hts in_X4 hown hK (hSep.cel (k := 0) rfl) 0 rfl rfl 7 (by decide) (hts _ q1480) (fun _ h9 => h9) rfl dX4_remember_41 ?_
          refine lv_iconst (v := (nI 1)) hx hb dX4_remember_44 (by decide) ?_
          refine n_isub hx hb (by omega) dX4_remember_45 ?_
          refine n_eq (y := (nI hs.tail.length)) (by rw [List.length_tail]) ?_
          refine s_put (ci := 3) (v := .int (nI hs.tail.length)) (ty := .int) (C := RX4) (T := TX4) (N := 16) hx hb hts in_X4 tyX4 tyX4_ok nmX4 hown hK hSep hS 0 rfl rfl 7 (by decide) (hts _ q1480) (fun _ h9 => h9) rfl (by decide +kernel) rfl rfl (Nat.le_of_ble_eq_true rfl) dX4_remember_46 (fun H locs hSep hS => ?_)
          have hSep : Sep G.1 clA (Fz F s.heap.size) [pts mo (.inr (3, [.int fR, .ref aT, .int (nI zs), .ref aN, .ref aL, .ref aP, .ref aD, .int (nI hs.tail.length), .ref aK, .ref aZ, .ref aG, .ref aB, .int (nI bl), .int bp, .ref aS, .int (nI tl)])), pts aN (.inl (G.2.1 0, 89, .inl fN)), pts aD (.inl (G.2.1 0, 1246, .inl f9))] H := hSep
          exact L49 hs.tail f9 ((if_pos c6).symm) (hH.tail c6 hp11_1) (by rw [List.length_tail]; omega) _ _ _ hSep hS (lv_sub hl [1] rfl)
        · refine lv_aload_n hx hb dX4_remember_18 rfl (lv_at hl 1 rfl) ?_
          refine va_get (D := G.1) (ci := 3) (v := .ref aD) (C := RX4) (T := TX4) (N := 16) hx hb hts in_X4 hown hK (hSep.cel (k := 0) rfl) 0 rfl rfl 6 (by decide) (hts _ q1479) (fun _ h9 => h9) rfl dX4_remember_19 ?_
          refine lv_iload_n hx hb dX4_remember_22 rfl (lv_at hl 0 rfl) ?_
          refine lv_aload_n hx hb dX4_remember_23 rfl (lv_at hl 1 rfl) ?_
          refine va_get (D := G.1) (ci := 3) (v := .ref aD) (C := RX4) (T := TX4) (N := 16) hx hb hts in_X4 hown hK (hSep.cel (k := 0) rfl) 0 rfl rfl 6 (by decide) (hts _ q1479) (fun _ h9 => h9) rfl dX4_remember_24 ?_
          refine lv_iload_n hx hb dX4_remember_27 rfl (lv_at hl 0 rfl) ?_
          refine lv_bipush (v := (nI 89)) hx hb dX4_remember_28 (by decide) ?_
          refine n_iadd hx hb dX4_remember_30 ?_
          refine n_iald (i := k + 89) hx hb hK (hSep.cel (k := 2) rfl) 0 rfl (by omega) (by omega) dX4_remember_31 ?_
          refine n_iast (i := k) (x := (f9 (k + 89))) (y := (f9 (k + 89))) hx hb hK hSep hS 2 rfl 0 rfl (by omega) (by omega) (rfl) dX4_remember_32 (fun H locs hSep hS => ?_)
          have hSep : Sep G.1 clA (Fz F s.heap.size) [pts mo (.inr (3, [.int fR, .ref aT, .int (nI zs), .ref aN, .ref aL, .ref aP, .ref aD, .int (nI hs.length), .ref aK, .ref aZ, .ref aG, .ref aB, .int (nI bl), .int bp, .ref aS, .int (nI tl)])), pts aN (.inl (G.2.1 0, 89, .inl fN)), pts aD (.inl (G.2.1 0, 1246, .inl (upd f9 k (f9 (k + 89)))))] H := hSep
          refine lv_iinc (v := (nI (k + 1))) (lv' := [(1, .int (nI (k + 1))), (0, .ref mo)]) hx hb dX4_remember_33 hl (k := 0) rfl (nI_inc k 1) (by decide) rfl (fun ls hl => ?_)
          refine lv_goto (tgt := 11) hx hb dX4_remember_36 (by decide) ?_
          exact ih11 (k + 1) (upd f9 k (f9 (k + 89))) (by omega) (by omega) (fun i h => by unfold upd; split; rename_i e9; rw [e9]; exact hp11_2 _ (by omega); exact hp11_1 i (by omega)) (fun i h => by rw [upd_n (by omega)]; exact hp11_2 i (by omega)) _ _ _ hSep hS (lv_sub hl [0, 1] rfl)
    exact L11 (1157 - 0 + 1) 0 fD (Nat.lt_succ_self _) (Nat.zero_le _) (fun i h => absurd h (Nat.not_lt_zero _)) (fun i h => rfl) _ _ _ hSep hS (lv_sub hl [0, 1] rfl)

set_option maxHeartbeats 600000 in
set_option maxRecDepth 100000 in
theorem m_X4_tell (l : Launch) (G : EVT) (F : Nat → Prop) (sz : Nat) (mo : Nat) (rf : Int32) (σ : MS)  : Met l yX4_tell (ws_ yX4_tell cX4_tell 1 (some .int)) ({ frames := 5, cells := 0, slots := 0, locals := 130 } : Room) (SPc G F sz [.ref mo] [modA G mo rf σ] (fun _ => True)) (SQi G F sz (fun (r : Int32) (u : Unit) => (oTell σ).1 = 0 → r = (oTell σ).2.1) (fun (u : Unit) => [modA G mo (nI (oTell σ).1) (oTell σ).2.2])) (0) (0) (Fz F sz) := by
  refine sp_of RX4 (by decide) rfl (Nat.le_of_ble_eq_true rfl) ?_
  intro p e s m args below meth c ls QQ hx hb hr hts hown hlocks hml hnm hsz hSep hΦ hE hS hl hQ
  subst hsz
  have hK := hE.1
  have hl : lv_has ls 1 [(0, .ref mo)] := hl
  obtain ⟨g, hs, kp, T⟩ := σ
  obtain ⟨aT, aN, aL, aP, aD, aK, aZ, aG, aB, aS, bl, bp, tl, fT, fN, fL, fP, fD, fK, fZ, fG, fB, fS, hC, hSep⟩ := mod_unpk hSep
  have hg : gV g := hC.1.1
  have ho : gOk g := hC.1.1.1
  have he : Enc fN g := hC.1.2
  have hT : Pre fT T := hC.2.2.2.1
  have hT20 : T.length ≤ 20 := hC.2.2.2.2.1
  have hT256 : ∀ w ∈ T, w < 256 := hC.2.2.2.2.2
  have hD14 : hs.length ≤ 14 := hC.2.1.1
  refine lv_aload_n hx hb dX4_tell_0 rfl (lv_at hl 0 rfl) ?_
  refine lv_aload_n hx hb dX4_tell_1 rfl (lv_at hl 0 rfl) ?_
  refine lv_aload_n hx hb dX4_tell_2 rfl (lv_at hl 0 rfl) ?_
  refine va_get (D := G.1) (ci := 3) (v := .ref aN) (C := RX4) (T := TX4) (N := 16) hx hb hts in_X4 hown hK (hSep.cel (k := 0) rfl) 0 rfl rfl 3 (by decide) (hts _ q1476) (fun _ h9 => h9) rfl dX4_tell_3 ?_
  obtain ⟨Fk_1, hFk_1, hPk_1, hJk_1⟩ := hSep.cut (Pc := [pts mo (.inr (3, [.int rf, .ref aT, .int (nI T.length), .ref aN, .ref aL, .ref aP, .ref aD, .int (nI hs.length), .ref aK, .ref aZ, .ref aG, .ref aB, .int (nI bl), .int bp, .ref aS, .int (nI tl)])), pts aT (.inl (G.2.1 0, 20, .inl fT)), pts aS (.inl (G.2.1 0, 5, .inl fS)), pts aN (.inl (G.2.1 0, 89, .inl fN))]) (Pr := [pts aL (.inl (G.2.1 0, 89, .inl fL)), pts aP (.inl (G.2.1 0, 89, .inl fP)), pts aD (.inl (G.2.1 0, 1246, .inl fD)), pts aK (.inl (G.2.1 0, 178, .inl fK)), pts aZ (.inl (G.2.1 2, 2, .inl fZ)), pts aG (.inl (G.2.1 0, 18, .inl fG)), pts aB (.inl (G.2.1 0, 5, .inl fB))]) (fun q h => Fz.new (Nat.le_trans hS.1 h)) [0, 1, 10, 2] [3, 4, 5, 6, 7, 8, 9] rfl rfl rfl rfl (by decide)
  refine c_i (va_runV (As := [.ref aN]) (rest := [.ref mo]) ⟨hx, hb, hml, hown, hts⟩ (m_X4_canTellNow l G Fk_1 s.heap.size mo rf aT T.length aN aL aP aD hs.length aK aZ aG aB bl bp aS tl T fT aN fN g fS (by first | assumption | omega) (by first | assumption | omega) (by first | assumption | omega) (by first | assumption | omega) (by first | assumption | omega) (by first | assumption | omega)) (cwV 1 hts (lw_V q1626 q1628 qs25 q44 q1629) rfl rfl rfl (by decide +kernel) ⟨Nat.le_of_ble_eq_true rfl, Nat.le_of_ble_eq_true rfl⟩) (sp_preV hE hS hFk_1 hPk_1 trivial (sp_recv (ci := 3) hK (hSep.cel (k := 0) rfl) rfl)) rfl rfl hl.1 rfl (lv_room (Nat.le_of_ble_eq_true rfl)) dX4_tell_6 ⟨by first | exact Nat.le_of_ble_eq_true rfl | omega | (dsimp only; omega), by first | exact Nat.le_of_ble_eq_true rfl | omega | (dsimp only; omega)⟩) hS hFk_1 hJk_1 (fun r_2 u_3 H locs hpk_1 hSep hS hzk_1 => ?_)
  obtain ⟨fS5, tl5⟩ := u_3
  obtain ⟨rfl, hpk_1⟩ : r_2 = (bI (gCanTellN g T)) ∧ (gCanTellN g T = true → Pre fS5 (tW T) ∧ tl5 = (tW T).length) := hpk_1
  refine W.cs (cells' := 0) (slots' := 0) rfl rfl ?_
  have hSep : Sep G.1 clA (Fz F s.heap.size) [pts aL (.inl (G.2.1 0, 89, .inl fL)), pts aP (.inl (G.2.1 0, 89, .inl fP)), pts aD (.inl (G.2.1 0, 1246, .inl fD)), pts aK (.inl (G.2.1 0, 178, .inl fK)), pts aZ (.inl (G.2.1 2, 2, .inl fZ)), pts aG (.inl (G.2.1 0, 18, .inl fG)), pts aB (.inl (G.2.1 0, 5, .inl fB)), pts mo (.inr (3, [.int rf, .ref aT, .int (nI T.length), .ref aN, .ref aL, .ref aP, .ref aD, .int (nI hs.length), .ref aK, .ref aZ, .ref aG, .ref aB, .int (nI bl), .int bp, .ref aS, .int (nI tl5)])), pts aT (.inl (G.2.1 0, 20, .inl fT)), pts aS (.inl (G.2.1 0, 5, .inl fS5)), pts aN (.inl (G.2.1 0, 89, .inl fN))] H := hSep
  have hR := hpk_1
  have L17 : ∀ (x9 : Nat) , ((x9 ≠ 0 ∧ oTell (g, hs, kp, T) = (x9, 0, (g, hs, kp, T))) ∨ (x9 = 0 ∧ gCanTellN g T = true)) → (x9 < 3) → ∀ (H : Heap) (locs : List Loc) (ls : Array Slot), Sep G.1 clA (Fz F s.heap.size) [pts aL (.inl (G.2.1 0, 89, .inl fL)), pts aP (.inl (G.2.1 0, 89, .inl fP)), pts aD (.inl (G.2.1 0, 1246, .inl fD)), pts aK (.inl (G.2.1 0, 178, .inl fK)), pts aZ (.inl (G.2.1 2, 2, .inl fZ)), pts aG (.inl (G.2.1 0, 18, .inl fG)), pts aB (.inl (G.2.1 0, 5, .inl fB)), pts mo (.inr (3, [.int rf, .ref aT, .int (nI T.length), .ref aN, .ref aL, .ref aP, .ref aD, .int (nI hs.length), .ref aK, .ref aZ, .ref aG, .ref aB, .int (nI bl), .int bp, .ref aS, .int (nI tl5)])), pts aT (.inl (G.2.1 0, 20, .inl fT)), pts aS (.inl (G.2.1 0, 5, .inl fS5)), pts aN (.inl (G.2.1 0, 89, .inl fN))] H → va_S (Fz F s.heap.size) s.heap H locs → lv_has ls 1 [(0, .ref mo)] → W p l e ({ frames := 5, cells := 0, slots := 0, locals := 130 } : Room) s m args below meth c H locs (0) (0) QQ (F0 m 17 ls [.int (nI x9), .ref mo]) := by
    intro x9 hrf hx9 H locs ls hSep hS hl
    obtain ⟨Fk_4, hFk_4, hPk_4, hJk_4⟩ := hSep.cut (Pc := [pts mo (.inr (3, [.int rf, .ref aT, .int (nI T.length), .ref aN, .ref aL, .ref aP, .ref aD, .int (nI hs.length), .ref aK, .ref aZ, .ref aG, .ref aB, .int (nI bl), .int bp, .ref aS, .int (nI tl5)]))]) (Pr := [pts aL (.inl (G.2.1 0, 89, .inl fL)), pts aP (.inl (G.2.1 0, 89, .inl fP)), pts aD (.inl (G.2.1 0, 1246, .inl fD)), pts aK (.inl (G.2.1 0, 178, .inl fK)), pts aZ (.inl (G.2.1 2, 2, .inl fZ)), pts aG (.inl (G.2.1 0, 18, .inl fG)), pts aB (.inl (G.2.1 0, 5, .inl fB)), pts aT (.inl (G.2.1 0, 20, .inl fT)), pts aS (.inl (G.2.1 0, 5, .inl fS5)), pts aN (.inl (G.2.1 0, 89, .inl fN))]) (fun q h => Fz.new (Nat.le_trans hS.1 h)) [7] [0, 1, 2, 3, 4, 5, 6, 8, 9, 10] rfl rfl rfl rfl (by decide)
    refine c_i (va_runV (As := [.int (nI x9)]) (rest := []) ⟨hx, hb, hml, hown, hts⟩ (m_X4_refused l G Fk_4 H.size mo rf aT T.length aN aL aP aD hs.length aK aZ aG aB bl bp aS tl5 x9 (by omega)) (cwV 1 hts (lw_V q1535 q1537 qs21 q44 q1538) rfl rfl rfl (by decide +kernel) ⟨Nat.le_of_ble_eq_true rfl, Nat.le_of_ble_eq_true rfl⟩) (sp_preV hE hS hFk_4 hPk_4 trivial (sp_recv (ci := 3) hK (hSep.cel (k := 7) rfl) rfl)) rfl rfl hl.1 rfl (lv_room (Nat.le_of_ble_eq_true rfl)) dX4_tell_17 ⟨by first | exact Nat.le_of_ble_eq_true rfl | omega | (dsimp only; omega), by first | exact Nat.le_of_ble_eq_true rfl | omega | (dsimp only; omega)⟩) hS hFk_4 hJk_4 (fun r_5 u_6 H locs hpk_4 hSep hS hzk_4 => ?_)
    obtain rfl : r_5 = (bI (decide (0 < x9))) := hpk_4
    refine W.cs (cells' := 0) (slots' := 0) rfl rfl ?_
    have hSep : Sep G.1 clA (Fz F s.heap.size) [pts aL (.inl (G.2.1 0, 89, .inl fL)), pts aP (.inl (G.2.1 0, 89, .inl fP)), pts aD (.inl (G.2.1 0, 1246, .inl fD)), pts aK (.inl (G.2.1 0, 178, .inl fK)), pts aZ (.inl (G.2.1 2, 2, .inl fZ)), pts aG (.inl (G.2.1 0, 18, .inl fG)), pts aB (.inl (G.2.1 0, 5, .inl fB)), pts aT (.inl (G.2.1 0, 20, .inl fT)), pts aS (.inl (G.2.1 0, 5, .inl fS5)), pts aN (.inl (G.2.1 0, 89, .inl fN)), pts mo (.inr (3, [.int (nI x9), .ref aT, .int (nI T.length), .ref aN, .ref aL, .ref aP, .ref aD, .int (nI hs.length), .ref aK, .ref aZ, .ref aG, .ref aB, .int (nI bl), .int bp, .ref aS, .int (nI tl5)]))] H := hSep
    refine b_if_eq (tgt := 25) hx hb dX4_tell_20 (by decide) (fun c20 => ?_) (fun c20 => ?_)
    · obtain ⟨hx0, hgd⟩ := hrf.resolve_left (fun h => h.1 (by have := of_decide_eq_false c20; omega))
      subst hx0
      refine lv_aload_n hx hb dX4_tell_25 rfl (lv_at hl 0 rfl) ?_
      obtain ⟨Fk_7, hFk_7, hPk_7, hJk_7⟩ := hSep.cut (Pc := [pts mo (.inr (3, [.int (nI 0), .ref aT, .int (nI T.length), .ref aN, .ref aL, .ref aP, .ref aD, .int (nI hs.length), .ref aK, .ref aZ, .ref aG, .ref aB, .int (nI bl), .int bp, .ref aS, .int (nI tl5)])), pts aN (.inl (G.2.1 0, 89, .inl fN)), pts aD (.inl (G.2.1 0, 1246, .inl fD))]) (Pr := [pts aL (.inl (G.2.1 0, 89, .inl fL)), pts aP (.inl (G.2.1 0, 89, .inl fP)), pts aK (.inl (G.2.1 0, 178, .inl fK)), pts aZ (.inl (G.2.1 2, 2, .inl fZ)), pts aG (.inl (G.2.1 0, 18, .inl fG)), pts aB (.inl (G.2.1 0, 5, .inl fB)), pts aT (.inl (G.2.1 0, 20, .inl fT)), pts aS (.inl (G.2.1 0, 5, .inl fS5))]) (fun q h => Fz.new (Nat.le_trans hS.1 h)) [10, 9, 2] [0, 1, 3, 4, 5, 6, 7, 8] rfl rfl rfl rfl (by decide)
      refine c_v (va_runV (As := []) (rest := []) ⟨hx, hb, hml, hown, hts⟩ (m_X4_remember l G Fk_7 H.size mo (nI 0) aT T.length aN aL aP aD hs.length aK aZ aG aB bl bp aS tl5 hs g fN fD (rfl) (hC.2.1) (he) (hg)) (cwV 0 hts (lw_V q1612 q1614 qs24 q44 q1615) rfl rfl rfl (by decide +kernel) ⟨Nat.le_of_ble_eq_true rfl, Nat.le_of_ble_eq_true rfl⟩) (sp_preV hE hS hFk_7 hPk_7 trivial (sp_recv (ci := 3) hK (hSep.cel (k := 10) rfl) rfl)) rfl rfl hl.1 rfl (lv_room (Nat.le_of_ble_eq_true rfl)) dX4_tell_26 ⟨by first | exact Nat.le_of_ble_eq_true rfl | omega | (dsimp only; omega), by first | exact Nat.le_of_ble_eq_true rfl | omega | (dsimp only; omega)⟩) hS hFk_7 hJk_7 (fun u_9 H locs hpk_7 hSep hS hzk_7 => ?_)
      obtain ⟨fD5, rfl⟩ : ∃ z, z = u_9 := ⟨_, rfl⟩
      have hpk_7 : histC (pushH hs g) fD5 := hpk_7
      refine W.cs (cells' := 0) (slots' := 0) rfl rfl ?_
      have hSep : Sep G.1 clA (Fz F s.heap.size) [pts aL (.inl (G.2.1 0, 89, .inl fL)), pts aP (.inl (G.2.1 0, 89, .inl fP)), pts aK (.inl (G.2.1 0, 178, .inl fK)), pts aZ (.inl (G.2.1 2, 2, .inl fZ)), pts aG (.inl (G.2.1 0, 18, .inl fG)), pts aB (.inl (G.2.1 0, 5, .inl fB)), pts aT (.inl (G.2.1 0, 20, .inl fT)), pts aS (.inl (G.2.1 0, 5, .inl fS5)), pts mo (.inr (3, [.int (nI 0), .ref aT, .int (nI T.length), .ref aN, .ref aL, .ref aP, .ref aD, .int (nI ((pushH hs g).length)), .ref aK, .ref aZ, .ref aG, .ref aB, .int (nI bl), .int bp, .ref aS, .int (nI tl5)])), pts aN (.inl (G.2.1 0, 89, .inl fN)), pts aD (.inl (G.2.1 0, 1246, .inl fD5))] H := hSep
      have hH5 := hpk_7
      refine lv_aload_n hx hb dX4_tell_29 rfl (lv_at hl 0 rfl) ?_
      refine lv_aload_n hx hb dX4_tell_30 rfl (lv_at hl 0 rfl) ?_
      refine va_get (D := G.1) (ci := 3) (v := .ref aN) (C := RX4) (T := TX4) (N := 16) hx hb hts in_X4 hown hK (hSep.cel (k := 8) rfl) 0 rfl rfl 3 (by decide) (hts _ q1476) (fun _ h9 => h9) rfl dX4_tell_31 ?_
      obtain ⟨Fk_10, hFk_10, hPk_10, hJk_10⟩ := hSep.cut (Pc := [pts mo (.inr (3, [.int (nI 0), .ref aT, .int (nI T.length), .ref aN, .ref aL, .ref aP, .ref aD, .int (nI ((pushH hs g).length)), .ref aK, .ref aZ, .ref aG, .ref aB, .int (nI bl), .int bp, .ref aS, .int (nI tl5)])), pts aS (.inl (G.2.1 0, 5, .inl fS5)), pts aN (.inl (G.2.1 0, 89, .inl fN))]) (Pr := [pts aL (.inl (G.2.1 0, 89, .inl fL)), pts aP (.inl (G.2.1 0, 89, .inl fP)), pts aK (.inl (G.2.1 0, 178, .inl fK)), pts aZ (.inl (G.2.1 2, 2, .inl fZ)), pts aG (.inl (G.2.1 0, 18, .inl fG)), pts aB (.inl (G.2.1 0, 5, .inl fB)), pts aT (.inl (G.2.1 0, 20, .inl fT)), pts aD (.inl (G.2.1 0, 1246, .inl fD5))]) (fun q h => Fz.new (Nat.le_trans hS.1 h)) [8, 7, 9] [0, 1, 2, 3, 4, 5, 6, 10] rfl rfl rfl rfl (by decide)
      refine c_i (va_runV (As := [.ref aN]) (rest := []) ⟨hx, hb, hml, hown, hts⟩ (m_X4_tellOn l G Fk_10 H.size mo (nI 0) aT T.length aN aL aP aD ((pushH hs g).length) aK aZ aG aB bl bp aS tl5 aN fN g fS5 (tW T) (he) (by first | assumption | omega) ((hR hgd).1) ((hR hgd).2) ((Sent_len (gCanTellN_sent hgd)).2) ((gCanTellN_sent hgd).2.2)) (cwV 1 hts (lw_V q1637 q1639 qs27 q44 q1640) rfl rfl rfl (by decide +kernel) ⟨Nat.le_of_ble_eq_true rfl, Nat.le_of_ble_eq_true rfl⟩) (sp_preV hE hS hFk_10 hPk_10 trivial (sp_recv (ci := 3) hK (hSep.cel (k := 8) rfl) rfl)) rfl rfl hl.1 rfl (lv_room (Nat.le_of_ble_eq_true rfl)) dX4_tell_34 ⟨by first | exact Nat.le_of_ble_eq_true rfl | omega | (dsimp only; omega), by first | exact Nat.le_of_ble_eq_true rfl | omega | (dsimp only; omega)⟩) hS hFk_10 hJk_10 (fun r_11 u_12 H locs hpk_10 hSep hS hzk_10 => ?_)
      obtain ⟨f8, rfl⟩ : ∃ z, z = u_12 := ⟨_, rfl⟩
      obtain ⟨rfl, hpk_10⟩ : r_11 = (nI (gPts g (tW T) 3)) ∧ Enc f8 (gTell g (tW T)) := hpk_10
      refine W.cs (cells' := 0) (slots' := 0) rfl rfl ?_
      have hSep : Sep G.1 clA (Fz F s.heap.size) [pts aL (.inl (G.2.1 0, 89, .inl fL)), pts aP (.inl (G.2.1 0, 89, .inl fP)), pts aK (.inl (G.2.1 0, 178, .inl fK)), pts aZ (.inl (G.2.1 2, 2, .inl fZ)), pts aG (.inl (G.2.1 0, 18, .inl fG)), pts aB (.inl (G.2.1 0, 5, .inl fB)), pts aT (.inl (G.2.1 0, 20, .inl fT)), pts aD (.inl (G.2.1 0, 1246, .inl fD5)), pts mo (.inr (3, [.int (nI 0), .ref aT, .int (nI T.length), .ref aN, .ref aL, .ref aP, .ref aD, .int (nI ((pushH hs g).length)), .ref aK, .ref aZ, .ref aG, .ref aB, .int (nI bl), .int bp, .ref aS, .int (nI tl5)])), pts aS (.inl (G.2.1 0, 5, .inl fS5)), pts aN (.inl (G.2.1 0, 89, .inl f8))] H := hSep
      have hf8 := hpk_10
      have hop : oTell (g, hs, kp, T) = (0, nI (gPts g (tW T) 3), actd (g, hs, kp, T) (gTell g (tW T))) := by unfold oTell; rw [if_neg (by rw [hgd]; decide)]
      rw [hQ]
      exact r_i (r := (nI (gPts g (tW T) 3))) (u := ()) hx hb hr (by rw [hop]; exact fun _ => rfl) (by rw [hop]; exact mod_close (hSep.pick [8, 6, 10, 0, 1, 7, 2, 3, 4, 5, 9] rfl rfl) rfl rfl rfl (⟨⟨gV_of (gOk_tell ho (Sent_len (gCanTellN_sent hgd)).2 (gCanTellN_sent hgd).2.2) (gTell_0.trans (gOn_0 (gCanTellN_on hgd))), hf8⟩, hH5, hC.2.2⟩)) hS (by first | exact Nat.le_of_ble_eq_true rfl | omega | (dsimp only; omega)) (by first | exact Nat.le_of_ble_eq_true rfl | omega | (dsimp only; omega)) dX4_tell_37 hlocks
    · obtain ⟨hx1, hop⟩ := hrf.resolve_right (fun h => absurd (of_decide_eq_true c20) (by rw [h.1]; decide))
      refine lv_iconst (v := (nI 0)) hx hb dX4_tell_23 (by decide) ?_
      rw [hQ]
      exact r_i (r := (nI 0)) (u := ()) hx hb hr (by rw [hop]; exact fun h => absurd h hx1) (by rw [hop]; exact mod_close (hSep.pick [10, 7, 9, 0, 1, 2, 3, 4, 5, 6, 8] rfl rfl) rfl rfl rfl hC) hS (by first | exact Nat.le_of_ble_eq_true rfl | omega | (dsimp only; omega)) (by first | exact Nat.le_of_ble_eq_true rfl | omega | (dsimp only; omega)) dX4_tell_24 hlocks
  refine b_if_eq (tgt := 16) hx hb dX4_tell_9 (by decide) (fun c9 => ?_) (fun c9 => ?_)
  · refine lv_iconst (v := (nI 1)) hx hb dX4_tell_16 (by decide) ?_
    exact L17 1 (Or.inl ⟨by decide, by unfold oTell; rw [if_pos c9]⟩) (by decide) _ _ _ hSep hS (lv_sub hl [0] rfl)
  · refine lv_iconst (v := (nI 0)) hx hb dX4_tell_12 (by decide) ?_
    refine lv_goto (tgt := 17) hx hb dX4_tell_13 (by decide) ?_
    exact L17 0 (Or.inr ⟨rfl, c9⟩) (by decide) _ _ _ hSep hS (lv_sub hl [0] rfl)

set_option maxHeartbeats 600000 in
set_option maxRecDepth 100000 in
theorem m_X4_forbid (l : Launch) (G : EVT) (F : Nat → Prop) (sz : Nat) (mo : Nat) (rf : Int32) (σ : MS) (x : Int32)  : Met l yX4_forbid (ws_ yX4_forbid cX4_forbid 2 (some .int)) ({ frames := 3, cells := 0, slots := 0, locals := 85 } : Room) (SPc G F sz [.ref mo, .int x] [modA G mo rf σ] (fun _ => True)) (SQi G F sz (fun (r : Int32) (u : Unit) => (oForbid σ x).1 = 0 → r = (oForbid σ x).2.1) (fun (u : Unit) => [modA G mo (nI (oForbid σ x).1) (oForbid σ x).2.2])) (0) (0) (Fz F sz) := by
  refine sp_of RX4 (by decide) rfl (Nat.le_of_ble_eq_true rfl) ?_
  intro p e s m args below meth c ls QQ hx hb hr hts hown hlocks hml hnm hsz hSep hΦ hE hS hl hQ
  subst hsz
  have hK := hE.1
  have hl : lv_has ls 2 [(0, .ref mo), (1, .int x)] := hl
  obtain ⟨g, hs, kp, T⟩ := σ
  obtain ⟨aT, aN, aL, aP, aD, aK, aZ, aG, aB, aS, bl, bp, tl, fT, fN, fL, fP, fD, fK, fZ, fG, fB, fS, hC, hSep⟩ := mod_unpk hSep
  have hg : gV g := hC.1.1
  have ho : gOk g := hC.1.1.1
  have he : Enc fN g := hC.1.2
  have hT : Pre fT T := hC.2.2.2.1
  have hT20 : T.length ≤ 20 := hC.2.2.2.2.1
  have hT256 : ∀ w ∈ T, w < 256 := hC.2.2.2.2.2
  have hD14 : hs.length ≤ 14 := hC.2.1.1
  have L28 : ∀ (x9 : Nat) , ((x9 ≠ 0 ∧ oForbid (g, hs, kp, T) x = (x9, 0, (g, hs, kp, T))) ∨ (x9 = 0 ∧ (inR x.toInt 0 17 = true ∧ gCan g x.toInt.toNat = true))) → (x9 < 3) → ∀ (H : Heap) (locs : List Loc) (ls : Array Slot), Sep G.1 clA (Fz F s.heap.size) [pts mo (.inr (3, [.int rf, .ref aT, .int (nI T.length), .ref aN, .ref aL, .ref aP, .ref aD, .int (nI hs.length), .ref aK, .ref aZ, .ref aG, .ref aB, .int (nI bl), .int bp, .ref aS, .int (nI tl)])), pts aT (.inl (G.2.1 0, 20, .inl fT)), pts aN (.inl (G.2.1 0, 89, .inl fN)), pts aL (.inl (G.2.1 0, 89, .inl fL)), pts aP (.inl (G.2.1 0, 89, .inl fP)), pts aD (.inl (G.2.1 0, 1246, .inl fD)), pts aK (.inl (G.2.1 0, 178, .inl fK)), pts aZ (.inl (G.2.1 2, 2, .inl fZ)), pts aG (.inl (G.2.1 0, 18, .inl fG)), pts aB (.inl (G.2.1 0, 5, .inl fB)), pts aS (.inl (G.2.1 0, 5, .inl fS))] H → va_S (Fz F s.heap.size) s.heap H locs → lv_has ls 2 [(0, .ref mo), (1, .int x)] → W p l e ({ frames := 3, cells := 0, slots := 0, locals := 85 } : Room) s m args below meth c H locs (0) (0) QQ (F0 m 28 ls [.int (nI x9), .ref mo]) := by
    intro x9 hrf hx9 H locs ls hSep hS hl
    obtain ⟨Fk_1, hFk_1, hPk_1, hJk_1⟩ := hSep.cut (Pc := [pts mo (.inr (3, [.int rf, .ref aT, .int (nI T.length), .ref aN, .ref aL, .ref aP, .ref aD, .int (nI hs.length), .ref aK, .ref aZ, .ref aG, .ref aB, .int (nI bl), .int bp, .ref aS, .int (nI tl)]))]) (Pr := [pts aT (.inl (G.2.1 0, 20, .inl fT)), pts aN (.inl (G.2.1 0, 89, .inl fN)), pts aL (.inl (G.2.1 0, 89, .inl fL)), pts aP (.inl (G.2.1 0, 89, .inl fP)), pts aD (.inl (G.2.1 0, 1246, .inl fD)), pts aK (.inl (G.2.1 0, 178, .inl fK)), pts aZ (.inl (G.2.1 2, 2, .inl fZ)), pts aG (.inl (G.2.1 0, 18, .inl fG)), pts aB (.inl (G.2.1 0, 5, .inl fB)), pts aS (.inl (G.2.1 0, 5, .inl fS))]) (fun q h => Fz.new (Nat.le_trans hS.1 h)) [0] [1, 2, 3, 4, 5, 6, 7, 8, 9, 10] rfl rfl rfl rfl (by decide)
    refine c_i (va_runV (As := [.int (nI x9)]) (rest := []) ⟨hx, hb, hml, hown, hts⟩ (m_X4_refused l G Fk_1 H.size mo rf aT T.length aN aL aP aD hs.length aK aZ aG aB bl bp aS tl x9 (by omega)) (cwV 1 hts (lw_V q1535 q1537 qs21 q44 q1538) rfl rfl rfl (by decide +kernel) ⟨Nat.le_of_ble_eq_true rfl, Nat.le_of_ble_eq_true rfl⟩) (sp_preV hE hS hFk_1 hPk_1 trivial (sp_recv (ci := 3) hK (hSep.cel (k := 0) rfl) rfl)) rfl rfl hl.1 rfl (lv_room (Nat.le_of_ble_eq_true rfl)) dX4_forbid_28 ⟨by first | exact Nat.le_of_ble_eq_true rfl | omega | (dsimp only; omega), by first | exact Nat.le_of_ble_eq_true rfl | omega | (dsimp only; omega)⟩) hS hFk_1 hJk_1 (fun r_2 u_3 H locs hpk_1 hSep hS hzk_1 => ?_)
    obtain rfl : r_2 = (bI (decide (0 < x9))) := hpk_1
    refine W.cs (cells' := 0) (slots' := 0) rfl rfl ?_
    have hSep : Sep G.1 clA (Fz F s.heap.size) [pts aT (.inl (G.2.1 0, 20, .inl fT)), pts aN (.inl (G.2.1 0, 89, .inl fN)), pts aL (.inl (G.2.1 0, 89, .inl fL)), pts aP (.inl (G.2.1 0, 89, .inl fP)), pts aD (.inl (G.2.1 0, 1246, .inl fD)), pts aK (.inl (G.2.1 0, 178, .inl fK)), pts aZ (.inl (G.2.1 2, 2, .inl fZ)), pts aG (.inl (G.2.1 0, 18, .inl fG)), pts aB (.inl (G.2.1 0, 5, .inl fB)), pts aS (.inl (G.2.1 0, 5, .inl fS)), pts mo (.inr (3, [.int (nI x9), .ref aT, .int (nI T.length), .ref aN, .ref aL, .ref aP, .ref aD, .int (nI hs.length), .ref aK, .ref aZ, .ref aG, .ref aB, .int (nI bl), .int bp, .ref aS, .int (nI tl)]))] H := hSep
    refine b_if_eq (tgt := 36) hx hb dX4_forbid_31 (by decide) (fun c31 => ?_) (fun c31 => ?_)
    · obtain ⟨hx0, hgd⟩ := hrf.resolve_left (fun h => h.1 (by have := of_decide_eq_false c31; omega))
      subst hx0
      obtain ⟨n9, hn91, hn92, rfl⟩ := inR_n (n := 17) hgd.1
      rw [nI_toInt hn92, Int.toNat_natCast] at hgd
      refine lv_aload_n hx hb dX4_forbid_36 rfl (lv_at hl 0 rfl) ?_
      obtain ⟨Fk_4, hFk_4, hPk_4, hJk_4⟩ := hSep.cut (Pc := [pts mo (.inr (3, [.int (nI 0), .ref aT, .int (nI T.length), .ref aN, .ref aL, .ref aP, .ref aD, .int (nI hs.length), .ref aK, .ref aZ, .ref aG, .ref aB, .int (nI bl), .int bp, .ref aS, .int (nI tl)])), pts aN (.inl (G.2.1 0, 89, .inl fN)), pts aD (.inl (G.2.1 0, 1246, .inl fD))]) (Pr := [pts aT (.inl (G.2.1 0, 20, .inl fT)), pts aL (.inl (G.2.1 0, 89, .inl fL)), pts aP (.inl (G.2.1 0, 89, .inl fP)), pts aK (.inl (G.2.1 0, 178, .inl fK)), pts aZ (.inl (G.2.1 2, 2, .inl fZ)), pts aG (.inl (G.2.1 0, 18, .inl fG)), pts aB (.inl (G.2.1 0, 5, .inl fB)), pts aS (.inl (G.2.1 0, 5, .inl fS))]) (fun q h => Fz.new (Nat.le_trans hS.1 h)) [10, 1, 4] [0, 2, 3, 5, 6, 7, 8, 9] rfl rfl rfl rfl (by decide)
      refine c_v (va_runV (As := []) (rest := []) ⟨hx, hb, hml, hown, hts⟩ (m_X4_remember l G Fk_4 H.size mo (nI 0) aT T.length aN aL aP aD hs.length aK aZ aG aB bl bp aS tl hs g fN fD (rfl) (hC.2.1) (he) (hg)) (cwV 0 hts (lw_V q1612 q1614 qs24 q44 q1615) rfl rfl rfl (by decide +kernel) ⟨Nat.le_of_ble_eq_true rfl, Nat.le_of_ble_eq_true rfl⟩) (sp_preV hE hS hFk_4 hPk_4 trivial (sp_recv (ci := 3) hK (hSep.cel (k := 10) rfl) rfl)) rfl rfl hl.1 rfl (lv_room (Nat.le_of_ble_eq_true rfl)) dX4_forbid_37 ⟨by first | exact Nat.le_of_ble_eq_true rfl | omega | (dsimp only; omega), by first | exact Nat.le_of_ble_eq_true rfl | omega | (dsimp only; omega)⟩) hS hFk_4 hJk_4 (fun u_6 H locs hpk_4 hSep hS hzk_4 => ?_)
      obtain ⟨fD5, rfl⟩ : ∃ z, z = u_6 := ⟨_, rfl⟩
      have hpk_4 : histC (pushH hs g) fD5 := hpk_4
      refine W.cs (cells' := 0) (slots' := 0) rfl rfl ?_
      have hSep : Sep G.1 clA (Fz F s.heap.size) [pts aT (.inl (G.2.1 0, 20, .inl fT)), pts aL (.inl (G.2.1 0, 89, .inl fL)), pts aP (.inl (G.2.1 0, 89, .inl fP)), pts aK (.inl (G.2.1 0, 178, .inl fK)), pts aZ (.inl (G.2.1 2, 2, .inl fZ)), pts aG (.inl (G.2.1 0, 18, .inl fG)), pts aB (.inl (G.2.1 0, 5, .inl fB)), pts aS (.inl (G.2.1 0, 5, .inl fS)), pts mo (.inr (3, [.int (nI 0), .ref aT, .int (nI T.length), .ref aN, .ref aL, .ref aP, .ref aD, .int (nI ((pushH hs g).length)), .ref aK, .ref aZ, .ref aG, .ref aB, .int (nI bl), .int bp, .ref aS, .int (nI tl)])), pts aN (.inl (G.2.1 0, 89, .inl fN)), pts aD (.inl (G.2.1 0, 1246, .inl fD5))] H := hSep
      have hH5 := hpk_4
      refine lv_aload_n hx hb dX4_forbid_40 rfl (lv_at hl 0 rfl) ?_
      refine va_get (D := G.1) (ci := 3) (v := .ref aN) (C := RX4) (T := TX4) (N := 16) hx hb hts in_X4 hown hK (hSep.cel (k := 8) rfl) 0 rfl rfl 3 (by decide) (hts _ q1476) (fun _ h9 => h9) rfl dX4_forbid_41 ?_
      refine lv_iload_n hx hb dX4_forbid_44 rfl (lv_at hl 1 rfl) ?_
      obtain ⟨Fk_7, hFk_7, hPk_7, hJk_7⟩ := hSep.cut (Pc := [pts aN (.inl (G.2.1 0, 89, .inl fN))]) (Pr := [pts aT (.inl (G.2.1 0, 20, .inl fT)), pts aL (.inl (G.2.1 0, 89, .inl fL)), pts aP (.inl (G.2.1 0, 89, .inl fP)), pts aK (.inl (G.2.1 0, 178, .inl fK)), pts aZ (.inl (G.2.1 2, 2, .inl fZ)), pts aG (.inl (G.2.1 0, 18, .inl fG)), pts aB (.inl (G.2.1 0, 5, .inl fB)), pts aS (.inl (G.2.1 0, 5, .inl fS)), pts mo (.inr (3, [.int (nI 0), .ref aT, .int (nI T.length), .ref aN, .ref aL, .ref aP, .ref aD, .int (nI ((pushH hs g).length)), .ref aK, .ref aZ, .ref aG, .ref aB, .int (nI bl), .int bp, .ref aS, .int (nI tl)])), pts aD (.inl (G.2.1 0, 1246, .inl fD5))]) (fun q h => Fz.new (Nat.le_trans hS.1 h)) [9] [0, 1, 2, 3, 4, 5, 6, 7, 8, 10] rfl rfl rfl rfl (by decide)
      refine c_i (va_runS (As := [.ref aN, .int (nI n9)]) (rest := []) ⟨hx, hb, hml, hown, hts⟩ (m_X4_forbidOn l G Fk_7 H.size aN fN g n9 (he) (by first | assumption | omega) (by omega)) (va_cwS 2 hts (lw_S q1658 q1659 q44 q1660) rfl rfl rfl (by decide +kernel) ⟨Nat.le_of_ble_eq_true rfl, Nat.le_of_ble_eq_true rfl⟩) (sp_preS hE hS hFk_7 hPk_7 trivial) rfl rfl hl.1 rfl (lv_room (Nat.le_of_ble_eq_true rfl)) dX4_forbid_45 ⟨by first | exact Nat.le_of_ble_eq_true rfl | omega | (dsimp only; omega), by first | exact Nat.le_of_ble_eq_true rfl | omega | (dsimp only; omega)⟩) hS hFk_7 hJk_7 (fun r_8 u_9 H locs hpk_7 hSep hS hzk_7 => ?_)
      obtain ⟨f8, rfl⟩ : ∃ z, z = u_9 := ⟨_, rfl⟩
      obtain ⟨rfl, hpk_7⟩ : r_8 = (nI ((gB (gBan g n9) (1 - gTurn g)).length)) ∧ Enc f8 (gForbid g n9) := hpk_7
      refine W.cs (cells' := 0) (slots' := 0) rfl rfl ?_
      have hSep : Sep G.1 clA (Fz F s.heap.size) [pts aT (.inl (G.2.1 0, 20, .inl fT)), pts aL (.inl (G.2.1 0, 89, .inl fL)), pts aP (.inl (G.2.1 0, 89, .inl fP)), pts aK (.inl (G.2.1 0, 178, .inl fK)), pts aZ (.inl (G.2.1 2, 2, .inl fZ)), pts aG (.inl (G.2.1 0, 18, .inl fG)), pts aB (.inl (G.2.1 0, 5, .inl fB)), pts aS (.inl (G.2.1 0, 5, .inl fS)), pts mo (.inr (3, [.int (nI 0), .ref aT, .int (nI T.length), .ref aN, .ref aL, .ref aP, .ref aD, .int (nI ((pushH hs g).length)), .ref aK, .ref aZ, .ref aG, .ref aB, .int (nI bl), .int bp, .ref aS, .int (nI tl)])), pts aD (.inl (G.2.1 0, 1246, .inl fD5)), pts aN (.inl (G.2.1 0, 89, .inl f8))] H := hSep
      have hf8 := hpk_7
      have hop : oForbid (g, hs, kp, T) (nI n9) = (0, nI (gB (gBan g n9) (1 - gTurn g)).length, actd (g, hs, kp, T) (gForbid g n9)) := by unfold oForbid; rw [nI_toInt hn92, Int.toNat_natCast, if_neg (by rw [hgd.1]; decide), if_neg (by rw [hgd.2]; decide)]
      rw [hQ]
      exact r_i (r := (nI ((gB (gBan g n9) (1 - gTurn g)).length))) (u := ()) hx hb hr (by rw [hop]; exact fun _ => rfl) (by rw [hop]; exact mod_close (hSep.pick [8, 0, 10, 1, 2, 9, 3, 4, 5, 6, 7] rfl rfl) rfl rfl rfl (⟨⟨gV_of (gOk_end (gOk_ban ho (by omega)) _) (gEnd_0.trans (show (gBan g n9).1 0 = nI 1 from gOn_0 (g := g) (gCan_on hgd.2))), hf8⟩, hH5, hC.2.2⟩)) hS (by first | exact Nat.le_of_ble_eq_true rfl | omega | (dsimp only; omega)) (by first | exact Nat.le_of_ble_eq_true rfl | omega | (dsimp only; omega)) dX4_forbid_48 hlocks
    · obtain ⟨hx1, hop⟩ := hrf.resolve_right (fun h => absurd (of_decide_eq_true c31) (by rw [h.1]; decide))
      refine lv_iconst (v := (nI 0)) hx hb dX4_forbid_34 (by decide) ?_
      rw [hQ]
      exact r_i (r := (nI 0)) (u := ()) hx hb hr (by rw [hop]; exact fun h => absurd h hx1) (by rw [hop]; exact mod_close (hSep.pick [10, 0, 1, 2, 3, 4, 5, 6, 7, 8, 9] rfl rfl) rfl rfl rfl hC) hS (by first | exact Nat.le_of_ble_eq_true rfl | omega | (dsimp only; omega)) (by first | exact Nat.le_of_ble_eq_true rfl | omega | (dsimp only; omega)) dX4_forbid_35 hlocks
  refine lv_aload_n hx hb dX4_forbid_0 rfl (lv_at hl 0 rfl) ?_
  refine lv_iload_n hx hb dX4_forbid_1 rfl (lv_at hl 1 rfl) ?_
  have hFk_10 : ∀ q, Fz (fun _ => False) s.heap.size q → (Fz F s.heap.size) q := fun q h => by rcases h with h | h; exact h.elim; exact Fz.new (Nat.le_trans hS.1 h)
  have hPk_10 : Sep G.1 clA (Fz (fun _ => False) s.heap.size) [] s.heap := sp_nil
  have hJk_10 := sp_nilJ (F := (fun _ => False)) hSep (fun _ => id) hFk_10
  refine c_i (va_runS (As := [.int x]) (rest := [.ref mo]) ⟨hx, hb, hml, hown, hts⟩ (m_X4_isWord l G s.heap.size x ) (va_cwS 1 hts (lw_S q1551 q1552 q44 q1553) rfl rfl rfl (by decide +kernel) ⟨Nat.le_of_ble_eq_true rfl, Nat.le_of_ble_eq_true rfl⟩) (sp_preS hE hS hFk_10 hPk_10 trivial) rfl rfl hl.1 rfl (lv_room (Nat.le_of_ble_eq_true rfl)) dX4_forbid_2 ⟨by first | exact Nat.le_of_ble_eq_true rfl | omega | (dsimp only; omega), by first | exact Nat.le_of_ble_eq_true rfl | omega | (dsimp only; omega)⟩) hS hFk_10 hJk_10 (fun r_11 u_12 H locs hpk_10 hSep hS hzk_10 => ?_)
  obtain rfl : r_11 = (bI (inR x.toInt 0 17)) := hpk_10
  refine W.cs (cells' := 0) (slots' := 0) rfl rfl ?_
  have hSep : Sep G.1 clA (Fz F s.heap.size) [pts mo (.inr (3, [.int rf, .ref aT, .int (nI T.length), .ref aN, .ref aL, .ref aP, .ref aD, .int (nI hs.length), .ref aK, .ref aZ, .ref aG, .ref aB, .int (nI bl), .int bp, .ref aS, .int (nI tl)])), pts aT (.inl (G.2.1 0, 20, .inl fT)), pts aN (.inl (G.2.1 0, 89, .inl fN)), pts aL (.inl (G.2.1 0, 89, .inl fL)), pts aP (.inl (G.2.1 0, 89, .inl fP)), pts aD (.inl (G.2.1 0, 1246, .inl fD)), pts aK (.inl (G.2.1 0, 178, .inl fK)), pts aZ (.inl (G.2.1 2, 2, .inl fZ)), pts aG (.inl (G.2.1 0, 18, .inl fG)), pts aB (.inl (G.2.1 0, 5, .inl fB)), pts aS (.inl (G.2.1 0, 5, .inl fS))] H := hSep
  refine b_if_ne (tgt := 12) hx hb dX4_forbid_5 (by decide) (fun c5 => ?_) (fun c5 => ?_)
  · obtain ⟨n9, hn91, hn92, rfl⟩ := inR_n (n := 17) c5
    refine lv_aload_n hx hb dX4_forbid_12 rfl (lv_at hl 0 rfl) ?_
    refine va_get (D := G.1) (ci := 3) (v := .ref aN) (C := RX4) (T := TX4) (N := 16) hx hb hts in_X4 hown hK (hSep.cel (k := 0) rfl) 0 rfl rfl 3 (by decide) (hts _ q1476) (fun _ h9 => h9) rfl dX4_forbid_13 ?_
    refine lv_iload_n hx hb dX4_forbid_16 rfl (lv_at hl 1 rfl) ?_
    have hFk_13 : ∀ q, Fz (fun _ => False) H.size q → (Fz F s.heap.size) q := fun q h => by rcases h with h | h; exact h.elim; exact Fz.new (Nat.le_trans hS.1 h)
    have hPk_13 : Sep G.1 clA (Fz (fun _ => False) H.size) [] H := sp_nil
    have hJk_13 := sp_nilJ (F := (fun _ => False)) hSep (fun _ => id) hFk_13
    refine c_i (va_runS (As := [.ref aN, .int (nI n9)]) (rest := [.ref mo]) ⟨hx, hb, hml, hown, hts⟩ (m_X4_canForbid l G H.size aN fN g n9 (by first | assumption | omega) (by first | assumption | omega) (by first | assumption | omega)) (va_cwS 2 hts (lw_S q1655 q1656 q44 q1657) rfl rfl rfl (by decide +kernel) ⟨Nat.le_of_ble_eq_true rfl, Nat.le_of_ble_eq_true rfl⟩) (sp_preS hE hS hFk_13 hPk_13 (hSep.cel (k := 2) rfl)) rfl rfl hl.1 rfl (lv_room (Nat.le_of_ble_eq_true rfl)) dX4_forbid_17 ⟨by first | exact Nat.le_of_ble_eq_true rfl | omega | (dsimp only; omega), by first | exact Nat.le_of_ble_eq_true rfl | omega | (dsimp only; omega)⟩) hS hFk_13 hJk_13 (fun r_14 u_15 H locs hpk_13 hSep hS hzk_13 => ?_)
    obtain rfl : r_14 = (bI (gCan g n9)) := hpk_13
    refine W.cs (cells' := 0) (slots' := 0) rfl rfl ?_
    have hSep : Sep G.1 clA (Fz F s.heap.size) [pts mo (.inr (3, [.int rf, .ref aT, .int (nI T.length), .ref aN, .ref aL, .ref aP, .ref aD, .int (nI hs.length), .ref aK, .ref aZ, .ref aG, .ref aB, .int (nI bl), .int bp, .ref aS, .int (nI tl)])), pts aT (.inl (G.2.1 0, 20, .inl fT)), pts aN (.inl (G.2.1 0, 89, .inl fN)), pts aL (.inl (G.2.1 0, 89, .inl fL)), pts aP (.inl (G.2.1 0, 89, .inl fP)), pts aD (.inl (G.2.1 0, 1246, .inl fD)), pts aK (.inl (G.2.1 0, 178, .inl fK)), pts aZ (.inl (G.2.1 2, 2, .inl fZ)), pts aG (.inl (G.2.1 0, 18, .inl fG)), pts aB (.inl (G.2.1 0, 5, .inl fB)), pts aS (.inl (G.2.1 0, 5, .inl fS))] H := hSep
    refine b_if_eq (tgt := 27) hx hb dX4_forbid_20 (by decide) (fun c20 => ?_) (fun c20 => ?_)
    · refine lv_iconst (v := (nI 2)) hx hb dX4_forbid_27 (by decide) ?_
      exact L28 2 (Or.inl ⟨by decide, by unfold oForbid; rw [if_neg (by rw [c5]; decide), if_pos (by rw [nI_toInt hn92, Int.toNat_natCast]; exact c20)]⟩) (by decide) _ _ _ hSep hS (lv_sub hl [0, 1] rfl)
    · refine lv_iconst (v := (nI 0)) hx hb dX4_forbid_23 (by decide) ?_
      refine lv_goto (tgt := 28) hx hb dX4_forbid_24 (by decide) ?_
      exact L28 0 (Or.inr ⟨rfl, ⟨c5, by rw [nI_toInt hn92, Int.toNat_natCast]; exact c20⟩⟩) (by decide) _ _ _ hSep hS (lv_sub hl [0, 1] rfl)
  · refine lv_iconst (v := (nI 1)) hx hb dX4_forbid_8 (by decide) ?_
    refine lv_goto (tgt := 28) hx hb dX4_forbid_9 (by decide) ?_
    exact L28 1 (Or.inl ⟨by decide, by unfold oForbid; rw [if_pos c5]⟩) (by decide) _ _ _ hSep hS (lv_sub hl [0, 1] rfl)

set_option maxHeartbeats 600000 in
set_option maxRecDepth 100000 in
theorem m_X4_done (l : Launch) (G : EVT) (F : Nat → Prop) (sz : Nat) (mo : Nat) (rf : Int32) (σ : MS)  : Met l yX4_done (ws_ yX4_done cX4_done 1 (some .int)) ({ frames := 3, cells := 0, slots := 0, locals := 64 } : Room) (SPc G F sz [.ref mo] [modA G mo rf σ] (fun _ => True)) (SQi G F sz (fun (r : Int32) (u : Unit) => (oDone σ).1 = 0 → r = (oDone σ).2.1) (fun (u : Unit) => [modA G mo (nI (oDone σ).1) (oDone σ).2.2])) (0) (0) (Fz F sz) := by
  refine sp_of RX4 (by decide) rfl (Nat.le_of_ble_eq_true rfl) ?_
  intro p e s m args below meth c ls QQ hx hb hr hts hown hlocks hml hnm hsz hSep hΦ hE hS hl hQ
  subst hsz
  have hK := hE.1
  have hl : lv_has ls 1 [(0, .ref mo)] := hl
  obtain ⟨g, hs, kp, T⟩ := σ
  obtain ⟨aT, aN, aL, aP, aD, aK, aZ, aG, aB, aS, bl, bp, tl, fT, fN, fL, fP, fD, fK, fZ, fG, fB, fS, hC, hSep⟩ := mod_unpk hSep
  have hg : gV g := hC.1.1
  have ho : gOk g := hC.1.1.1
  have he : Enc fN g := hC.1.2
  have hT : Pre fT T := hC.2.2.2.1
  have hT20 : T.length ≤ 20 := hC.2.2.2.2.1
  have hT256 : ∀ w ∈ T, w < 256 := hC.2.2.2.2.2
  have hD14 : hs.length ≤ 14 := hC.2.1.1
  have L16 : ∀ (x9 : Nat) , ((x9 ≠ 0 ∧ oDone (g, hs, kp, T) = (x9, 0, (g, hs, kp, T))) ∨ (x9 = 0 ∧ gOn g = true)) → (x9 < 3) → ∀ (H : Heap) (locs : List Loc) (ls : Array Slot), Sep G.1 clA (Fz F s.heap.size) [pts mo (.inr (3, [.int rf, .ref aT, .int (nI T.length), .ref aN, .ref aL, .ref aP, .ref aD, .int (nI hs.length), .ref aK, .ref aZ, .ref aG, .ref aB, .int (nI bl), .int bp, .ref aS, .int (nI tl)])), pts aT (.inl (G.2.1 0, 20, .inl fT)), pts aN (.inl (G.2.1 0, 89, .inl fN)), pts aL (.inl (G.2.1 0, 89, .inl fL)), pts aP (.inl (G.2.1 0, 89, .inl fP)), pts aD (.inl (G.2.1 0, 1246, .inl fD)), pts aK (.inl (G.2.1 0, 178, .inl fK)), pts aZ (.inl (G.2.1 2, 2, .inl fZ)), pts aG (.inl (G.2.1 0, 18, .inl fG)), pts aB (.inl (G.2.1 0, 5, .inl fB)), pts aS (.inl (G.2.1 0, 5, .inl fS))] H → va_S (Fz F s.heap.size) s.heap H locs → lv_has ls 1 [(0, .ref mo)] → W p l e ({ frames := 3, cells := 0, slots := 0, locals := 64 } : Room) s m args below meth c H locs (0) (0) QQ (F0 m 16 ls [.int (nI x9), .ref mo]) := by
    intro x9 hrf hx9 H locs ls hSep hS hl
    obtain ⟨Fk_1, hFk_1, hPk_1, hJk_1⟩ := hSep.cut (Pc := [pts mo (.inr (3, [.int rf, .ref aT, .int (nI T.length), .ref aN, .ref aL, .ref aP, .ref aD, .int (nI hs.length), .ref aK, .ref aZ, .ref aG, .ref aB, .int (nI bl), .int bp, .ref aS, .int (nI tl)]))]) (Pr := [pts aT (.inl (G.2.1 0, 20, .inl fT)), pts aN (.inl (G.2.1 0, 89, .inl fN)), pts aL (.inl (G.2.1 0, 89, .inl fL)), pts aP (.inl (G.2.1 0, 89, .inl fP)), pts aD (.inl (G.2.1 0, 1246, .inl fD)), pts aK (.inl (G.2.1 0, 178, .inl fK)), pts aZ (.inl (G.2.1 2, 2, .inl fZ)), pts aG (.inl (G.2.1 0, 18, .inl fG)), pts aB (.inl (G.2.1 0, 5, .inl fB)), pts aS (.inl (G.2.1 0, 5, .inl fS))]) (fun q h => Fz.new (Nat.le_trans hS.1 h)) [0] [1, 2, 3, 4, 5, 6, 7, 8, 9, 10] rfl rfl rfl rfl (by decide)
    refine c_i (va_runV (As := [.int (nI x9)]) (rest := []) ⟨hx, hb, hml, hown, hts⟩ (m_X4_refused l G Fk_1 H.size mo rf aT T.length aN aL aP aD hs.length aK aZ aG aB bl bp aS tl x9 (by omega)) (cwV 1 hts (lw_V q1535 q1537 qs21 q44 q1538) rfl rfl rfl (by decide +kernel) ⟨Nat.le_of_ble_eq_true rfl, Nat.le_of_ble_eq_true rfl⟩) (sp_preV hE hS hFk_1 hPk_1 trivial (sp_recv (ci := 3) hK (hSep.cel (k := 0) rfl) rfl)) rfl rfl hl.1 rfl (lv_room (Nat.le_of_ble_eq_true rfl)) dX4_done_16 ⟨by first | exact Nat.le_of_ble_eq_true rfl | omega | (dsimp only; omega), by first | exact Nat.le_of_ble_eq_true rfl | omega | (dsimp only; omega)⟩) hS hFk_1 hJk_1 (fun r_2 u_3 H locs hpk_1 hSep hS hzk_1 => ?_)
    obtain rfl : r_2 = (bI (decide (0 < x9))) := hpk_1
    refine W.cs (cells' := 0) (slots' := 0) rfl rfl ?_
    have hSep : Sep G.1 clA (Fz F s.heap.size) [pts aT (.inl (G.2.1 0, 20, .inl fT)), pts aN (.inl (G.2.1 0, 89, .inl fN)), pts aL (.inl (G.2.1 0, 89, .inl fL)), pts aP (.inl (G.2.1 0, 89, .inl fP)), pts aD (.inl (G.2.1 0, 1246, .inl fD)), pts aK (.inl (G.2.1 0, 178, .inl fK)), pts aZ (.inl (G.2.1 2, 2, .inl fZ)), pts aG (.inl (G.2.1 0, 18, .inl fG)), pts aB (.inl (G.2.1 0, 5, .inl fB)), pts aS (.inl (G.2.1 0, 5, .inl fS)), pts mo (.inr (3, [.int (nI x9), .ref aT, .int (nI T.length), .ref aN, .ref aL, .ref aP, .ref aD, .int (nI hs.length), .ref aK, .ref aZ, .ref aG, .ref aB, .int (nI bl), .int bp, .ref aS, .int (nI tl)]))] H := hSep
    refine b_if_eq (tgt := 24) hx hb dX4_done_19 (by decide) (fun c19 => ?_) (fun c19 => ?_)
    · obtain ⟨hx0, hgd⟩ := hrf.resolve_left (fun h => h.1 (by have := of_decide_eq_false c19; omega))
      subst hx0
      refine lv_aload_n hx hb dX4_done_24 rfl (lv_at hl 0 rfl) ?_
      obtain ⟨Fk_4, hFk_4, hPk_4, hJk_4⟩ := hSep.cut (Pc := [pts mo (.inr (3, [.int (nI 0), .ref aT, .int (nI T.length), .ref aN, .ref aL, .ref aP, .ref aD, .int (nI hs.length), .ref aK, .ref aZ, .ref aG, .ref aB, .int (nI bl), .int bp, .ref aS, .int (nI tl)])), pts aN (.inl (G.2.1 0, 89, .inl fN)), pts aD (.inl (G.2.1 0, 1246, .inl fD))]) (Pr := [pts aT (.inl (G.2.1 0, 20, .inl fT)), pts aL (.inl (G.2.1 0, 89, .inl fL)), pts aP (.inl (G.2.1 0, 89, .inl fP)), pts aK (.inl (G.2.1 0, 178, .inl fK)), pts aZ (.inl (G.2.1 2, 2, .inl fZ)), pts aG (.inl (G.2.1 0, 18, .inl fG)), pts aB (.inl (G.2.1 0, 5, .inl fB)), pts aS (.inl (G.2.1 0, 5, .inl fS))]) (fun q h => Fz.new (Nat.le_trans hS.1 h)) [10, 1, 4] [0, 2, 3, 5, 6, 7, 8, 9] rfl rfl rfl rfl (by decide)
      refine c_v (va_runV (As := []) (rest := []) ⟨hx, hb, hml, hown, hts⟩ (m_X4_remember l G Fk_4 H.size mo (nI 0) aT T.length aN aL aP aD hs.length aK aZ aG aB bl bp aS tl hs g fN fD (rfl) (hC.2.1) (he) (hg)) (cwV 0 hts (lw_V q1612 q1614 qs24 q44 q1615) rfl rfl rfl (by decide +kernel) ⟨Nat.le_of_ble_eq_true rfl, Nat.le_of_ble_eq_true rfl⟩) (sp_preV hE hS hFk_4 hPk_4 trivial (sp_recv (ci := 3) hK (hSep.cel (k := 10) rfl) rfl)) rfl rfl hl.1 rfl (lv_room (Nat.le_of_ble_eq_true rfl)) dX4_done_25 ⟨by first | exact Nat.le_of_ble_eq_true rfl | omega | (dsimp only; omega), by first | exact Nat.le_of_ble_eq_true rfl | omega | (dsimp only; omega)⟩) hS hFk_4 hJk_4 (fun u_6 H locs hpk_4 hSep hS hzk_4 => ?_)
      obtain ⟨fD5, rfl⟩ : ∃ z, z = u_6 := ⟨_, rfl⟩
      have hpk_4 : histC (pushH hs g) fD5 := hpk_4
      refine W.cs (cells' := 0) (slots' := 0) rfl rfl ?_
      have hSep : Sep G.1 clA (Fz F s.heap.size) [pts aT (.inl (G.2.1 0, 20, .inl fT)), pts aL (.inl (G.2.1 0, 89, .inl fL)), pts aP (.inl (G.2.1 0, 89, .inl fP)), pts aK (.inl (G.2.1 0, 178, .inl fK)), pts aZ (.inl (G.2.1 2, 2, .inl fZ)), pts aG (.inl (G.2.1 0, 18, .inl fG)), pts aB (.inl (G.2.1 0, 5, .inl fB)), pts aS (.inl (G.2.1 0, 5, .inl fS)), pts mo (.inr (3, [.int (nI 0), .ref aT, .int (nI T.length), .ref aN, .ref aL, .ref aP, .ref aD, .int (nI ((pushH hs g).length)), .ref aK, .ref aZ, .ref aG, .ref aB, .int (nI bl), .int bp, .ref aS, .int (nI tl)])), pts aN (.inl (G.2.1 0, 89, .inl fN)), pts aD (.inl (G.2.1 0, 1246, .inl fD5))] H := hSep
      have hH5 := hpk_4
      refine lv_aload_n hx hb dX4_done_28 rfl (lv_at hl 0 rfl) ?_
      refine va_get (D := G.1) (ci := 3) (v := .ref aN) (C := RX4) (T := TX4) (N := 16) hx hb hts in_X4 hown hK (hSep.cel (k := 8) rfl) 0 rfl rfl 3 (by decide) (hts _ q1476) (fun _ h9 => h9) rfl dX4_done_29 ?_
      obtain ⟨Fk_7, hFk_7, hPk_7, hJk_7⟩ := hSep.cut (Pc := [pts aN (.inl (G.2.1 0, 89, .inl fN))]) (Pr := [pts aT (.inl (G.2.1 0, 20, .inl fT)), pts aL (.inl (G.2.1 0, 89, .inl fL)), pts aP (.inl (G.2.1 0, 89, .inl fP)), pts aK (.inl (G.2.1 0, 178, .inl fK)), pts aZ (.inl (G.2.1 2, 2, .inl fZ)), pts aG (.inl (G.2.1 0, 18, .inl fG)), pts aB (.inl (G.2.1 0, 5, .inl fB)), pts aS (.inl (G.2.1 0, 5, .inl fS)), pts mo (.inr (3, [.int (nI 0), .ref aT, .int (nI T.length), .ref aN, .ref aL, .ref aP, .ref aD, .int (nI ((pushH hs g).length)), .ref aK, .ref aZ, .ref aG, .ref aB, .int (nI bl), .int bp, .ref aS, .int (nI tl)])), pts aD (.inl (G.2.1 0, 1246, .inl fD5))]) (fun q h => Fz.new (Nat.le_trans hS.1 h)) [9] [0, 1, 2, 3, 4, 5, 6, 7, 8, 10] rfl rfl rfl rfl (by decide)
      refine c_i (va_runS (As := [.ref aN]) (rest := []) ⟨hx, hb, hml, hown, hts⟩ (m_X4_doneOn l G Fk_7 H.size aN fN g (he) (by first | assumption | omega)) (va_cwS 1 hts (lw_S q1671 q1672 q44 q1673) rfl rfl rfl (by decide +kernel) ⟨Nat.le_of_ble_eq_true rfl, Nat.le_of_ble_eq_true rfl⟩) (sp_preS hE hS hFk_7 hPk_7 trivial) rfl rfl hl.1 rfl (lv_room (Nat.le_of_ble_eq_true rfl)) dX4_done_32 ⟨by first | exact Nat.le_of_ble_eq_true rfl | omega | (dsimp only; omega), by first | exact Nat.le_of_ble_eq_true rfl | omega | (dsimp only; omega)⟩) hS hFk_7 hJk_7 (fun r_8 u_9 H locs hpk_7 hSep hS hzk_7 => ?_)
      obtain ⟨f8, rfl⟩ : ∃ z, z = u_9 := ⟨_, rfl⟩
      obtain ⟨rfl, hpk_7⟩ : r_8 = (gNextV (gDone g)) ∧ Enc f8 (gDone g) := hpk_7
      refine W.cs (cells' := 0) (slots' := 0) rfl rfl ?_
      have hSep : Sep G.1 clA (Fz F s.heap.size) [pts aT (.inl (G.2.1 0, 20, .inl fT)), pts aL (.inl (G.2.1 0, 89, .inl fL)), pts aP (.inl (G.2.1 0, 89, .inl fP)), pts aK (.inl (G.2.1 0, 178, .inl fK)), pts aZ (.inl (G.2.1 2, 2, .inl fZ)), pts aG (.inl (G.2.1 0, 18, .inl fG)), pts aB (.inl (G.2.1 0, 5, .inl fB)), pts aS (.inl (G.2.1 0, 5, .inl fS)), pts mo (.inr (3, [.int (nI 0), .ref aT, .int (nI T.length), .ref aN, .ref aL, .ref aP, .ref aD, .int (nI ((pushH hs g).length)), .ref aK, .ref aZ, .ref aG, .ref aB, .int (nI bl), .int bp, .ref aS, .int (nI tl)])), pts aD (.inl (G.2.1 0, 1246, .inl fD5)), pts aN (.inl (G.2.1 0, 89, .inl f8))] H := hSep
      have hf8 := hpk_7
      have hop : oDone (g, hs, kp, T) = (0, gNextV (gDone g), actd (g, hs, kp, T) (gDone g)) := by unfold oDone; rw [if_neg (by rw [hgd]; decide)]
      rw [hQ]
      exact r_i (r := (gNextV (gDone g))) (u := ()) hx hb hr (by rw [hop]; exact fun _ => rfl) (by rw [hop]; exact mod_close (hSep.pick [8, 0, 10, 1, 2, 9, 3, 4, 5, 6, 7] rfl rfl) rfl rfl rfl (⟨⟨gV_of (gOk_end ho _) (gEnd_0.trans (gOn_0 hgd)), hf8⟩, hH5, hC.2.2⟩)) hS (by first | exact Nat.le_of_ble_eq_true rfl | omega | (dsimp only; omega)) (by first | exact Nat.le_of_ble_eq_true rfl | omega | (dsimp only; omega)) dX4_done_35 hlocks
    · obtain ⟨hx1, hop⟩ := hrf.resolve_right (fun h => absurd (of_decide_eq_true c19) (by rw [h.1]; decide))
      refine lv_iconst (v := (nI 0)) hx hb dX4_done_22 (by decide) ?_
      rw [hQ]
      exact r_i (r := (nI 0)) (u := ()) hx hb hr (by rw [hop]; exact fun h => absurd h hx1) (by rw [hop]; exact mod_close (hSep.pick [10, 0, 1, 2, 3, 4, 5, 6, 7, 8, 9] rfl rfl) rfl rfl rfl hC) hS (by first | exact Nat.le_of_ble_eq_true rfl | omega | (dsimp only; omega)) (by first | exact Nat.le_of_ble_eq_true rfl | omega | (dsimp only; omega)) dX4_done_23 hlocks
  refine lv_aload_n hx hb dX4_done_0 rfl (lv_at hl 0 rfl) ?_
  refine lv_aload_n hx hb dX4_done_1 rfl (lv_at hl 0 rfl) ?_
  refine va_get (D := G.1) (ci := 3) (v := .ref aN) (C := RX4) (T := TX4) (N := 16) hx hb hts in_X4 hown hK (hSep.cel (k := 0) rfl) 0 rfl rfl 3 (by decide) (hts _ q1476) (fun _ h9 => h9) rfl dX4_done_2 ?_
  have hFk_10 : ∀ q, Fz (fun _ => False) s.heap.size q → (Fz F s.heap.size) q := fun q h => by rcases h with h | h; exact h.elim; exact Fz.new (Nat.le_trans hS.1 h)
  have hPk_10 : Sep G.1 clA (Fz (fun _ => False) s.heap.size) [] s.heap := sp_nil
  have hJk_10 := sp_nilJ (F := (fun _ => False)) hSep (fun _ => id) hFk_10
  refine c_i (va_runS (As := [.ref aN]) (rest := [.ref mo]) ⟨hx, hb, hml, hown, hts⟩ (m_X4_isOn l G s.heap.size aN fN g (by first | assumption | omega)) (va_cwS 1 hts (lw_S q1630 q1631 q44 q1632) rfl rfl rfl (by decide +kernel) ⟨Nat.le_of_ble_eq_true rfl, Nat.le_of_ble_eq_true rfl⟩) (sp_preS hE hS hFk_10 hPk_10 (hSep.cel (k := 2) rfl)) rfl rfl hl.1 rfl (lv_room (Nat.le_of_ble_eq_true rfl)) dX4_done_5 ⟨by first | exact Nat.le_of_ble_eq_true rfl | omega | (dsimp only; omega), by first | exact Nat.le_of_ble_eq_true rfl | omega | (dsimp only; omega)⟩) hS hFk_10 hJk_10 (fun r_11 u_12 H locs hpk_10 hSep hS hzk_10 => ?_)
  obtain rfl : r_11 = (bI (gOn g)) := hpk_10
  refine W.cs (cells' := 0) (slots' := 0) rfl rfl ?_
  have hSep : Sep G.1 clA (Fz F s.heap.size) [pts mo (.inr (3, [.int rf, .ref aT, .int (nI T.length), .ref aN, .ref aL, .ref aP, .ref aD, .int (nI hs.length), .ref aK, .ref aZ, .ref aG, .ref aB, .int (nI bl), .int bp, .ref aS, .int (nI tl)])), pts aT (.inl (G.2.1 0, 20, .inl fT)), pts aN (.inl (G.2.1 0, 89, .inl fN)), pts aL (.inl (G.2.1 0, 89, .inl fL)), pts aP (.inl (G.2.1 0, 89, .inl fP)), pts aD (.inl (G.2.1 0, 1246, .inl fD)), pts aK (.inl (G.2.1 0, 178, .inl fK)), pts aZ (.inl (G.2.1 2, 2, .inl fZ)), pts aG (.inl (G.2.1 0, 18, .inl fG)), pts aB (.inl (G.2.1 0, 5, .inl fB)), pts aS (.inl (G.2.1 0, 5, .inl fS))] H := hSep
  refine b_if_eq (tgt := 15) hx hb dX4_done_8 (by decide) (fun c8 => ?_) (fun c8 => ?_)
  · refine lv_iconst (v := (nI 1)) hx hb dX4_done_15 (by decide) ?_
    exact L16 1 (Or.inl ⟨by decide, by unfold oDone; rw [if_pos c8]⟩) (by decide) _ _ _ hSep hS (lv_sub hl [0] rfl)
  · refine lv_iconst (v := (nI 0)) hx hb dX4_done_11 (by decide) ?_
    refine lv_goto (tgt := 16) hx hb dX4_done_12 (by decide) ?_
    exact L16 0 (Or.inr ⟨rfl, c8⟩) (by decide) _ _ _ hSep hS (lv_sub hl [0] rfl)

set_option maxHeartbeats 600000 in
set_option maxRecDepth 100000 in
theorem m_X4_play (l : Launch) (G : EVT) (F : Nat → Prop) (sz : Nat) (mo : Nat) (rf : Int32) (σ : MS)  : Met l yX4_play (ws_ yX4_play cX4_play 1 (some .int)) ({ frames := 6, cells := 0, slots := 0, locals := 159 } : Room) (SPc G F sz [.ref mo] [modA G mo rf σ] (fun _ => True)) (SQi G F sz (fun (r : Int32) (u : Unit) => (oPlay σ).1 = 0 → r = (oPlay σ).2.1) (fun (u : Unit) => [modA G mo (nI (oPlay σ).1) (oPlay σ).2.2])) (0) (0) (Fz F sz) := by
  refine sp_of RX4 (by decide) rfl (Nat.le_of_ble_eq_true rfl) ?_
  intro p e s m args below meth c ls QQ hx hb hr hts hown hlocks hml hnm hsz hSep hΦ hE hS hl hQ
  subst hsz
  have hK := hE.1
  have hl : lv_has ls 1 [(0, .ref mo)] := hl
  obtain ⟨g, hs, kp, T⟩ := σ
  obtain ⟨aT, aN, aL, aP, aD, aK, aZ, aG, aB, aS, bl, bp, tl, fT, fN, fL, fP, fD, fK, fZ, fG, fB, fS, hC, hSep⟩ := mod_unpk hSep
  have hg : gV g := hC.1.1
  have ho : gOk g := hC.1.1.1
  have he : Enc fN g := hC.1.2
  have hT : Pre fT T := hC.2.2.2.1
  have hT20 : T.length ≤ 20 := hC.2.2.2.2.1
  have hT256 : ∀ w ∈ T, w < 256 := hC.2.2.2.2.2
  have hD14 : hs.length ≤ 14 := hC.2.1.1
  have L16 : ∀ (x9 : Nat) , ((x9 ≠ 0 ∧ oPlay (g, hs, kp, T) = (x9, 0, (g, hs, kp, T))) ∨ (x9 = 0 ∧ gOn g = true)) → (x9 < 3) → ∀ (H : Heap) (locs : List Loc) (ls : Array Slot), Sep G.1 clA (Fz F s.heap.size) [pts mo (.inr (3, [.int rf, .ref aT, .int (nI T.length), .ref aN, .ref aL, .ref aP, .ref aD, .int (nI hs.length), .ref aK, .ref aZ, .ref aG, .ref aB, .int (nI bl), .int bp, .ref aS, .int (nI tl)])), pts aT (.inl (G.2.1 0, 20, .inl fT)), pts aN (.inl (G.2.1 0, 89, .inl fN)), pts aL (.inl (G.2.1 0, 89, .inl fL)), pts aP (.inl (G.2.1 0, 89, .inl fP)), pts aD (.inl (G.2.1 0, 1246, .inl fD)), pts aK (.inl (G.2.1 0, 178, .inl fK)), pts aZ (.inl (G.2.1 2, 2, .inl fZ)), pts aG (.inl (G.2.1 0, 18, .inl fG)), pts aB (.inl (G.2.1 0, 5, .inl fB)), pts aS (.inl (G.2.1 0, 5, .inl fS))] H → va_S (Fz F s.heap.size) s.heap H locs → lv_has ls 1 [(0, .ref mo)] → W p l e ({ frames := 6, cells := 0, slots := 0, locals := 159 } : Room) s m args below meth c H locs (0) (0) QQ (F0 m 16 ls [.int (nI x9), .ref mo]) := by
    intro x9 hrf hx9 H locs ls hSep hS hl
    obtain ⟨Fk_1, hFk_1, hPk_1, hJk_1⟩ := hSep.cut (Pc := [pts mo (.inr (3, [.int rf, .ref aT, .int (nI T.length), .ref aN, .ref aL, .ref aP, .ref aD, .int (nI hs.length), .ref aK, .ref aZ, .ref aG, .ref aB, .int (nI bl), .int bp, .ref aS, .int (nI tl)]))]) (Pr := [pts aT (.inl (G.2.1 0, 20, .inl fT)), pts aN (.inl (G.2.1 0, 89, .inl fN)), pts aL (.inl (G.2.1 0, 89, .inl fL)), pts aP (.inl (G.2.1 0, 89, .inl fP)), pts aD (.inl (G.2.1 0, 1246, .inl fD)), pts aK (.inl (G.2.1 0, 178, .inl fK)), pts aZ (.inl (G.2.1 2, 2, .inl fZ)), pts aG (.inl (G.2.1 0, 18, .inl fG)), pts aB (.inl (G.2.1 0, 5, .inl fB)), pts aS (.inl (G.2.1 0, 5, .inl fS))]) (fun q h => Fz.new (Nat.le_trans hS.1 h)) [0] [1, 2, 3, 4, 5, 6, 7, 8, 9, 10] rfl rfl rfl rfl (by decide)
    refine c_i (va_runV (As := [.int (nI x9)]) (rest := []) ⟨hx, hb, hml, hown, hts⟩ (m_X4_refused l G Fk_1 H.size mo rf aT T.length aN aL aP aD hs.length aK aZ aG aB bl bp aS tl x9 (by omega)) (cwV 1 hts (lw_V q1535 q1537 qs21 q44 q1538) rfl rfl rfl (by decide +kernel) ⟨Nat.le_of_ble_eq_true rfl, Nat.le_of_ble_eq_true rfl⟩) (sp_preV hE hS hFk_1 hPk_1 trivial (sp_recv (ci := 3) hK (hSep.cel (k := 0) rfl) rfl)) rfl rfl hl.1 rfl (lv_room (Nat.le_of_ble_eq_true rfl)) dX4_play_16 ⟨by first | exact Nat.le_of_ble_eq_true rfl | omega | (dsimp only; omega), by first | exact Nat.le_of_ble_eq_true rfl | omega | (dsimp only; omega)⟩) hS hFk_1 hJk_1 (fun r_2 u_3 H locs hpk_1 hSep hS hzk_1 => ?_)
    obtain rfl : r_2 = (bI (decide (0 < x9))) := hpk_1
    refine W.cs (cells' := 0) (slots' := 0) rfl rfl ?_
    have hSep : Sep G.1 clA (Fz F s.heap.size) [pts aT (.inl (G.2.1 0, 20, .inl fT)), pts aN (.inl (G.2.1 0, 89, .inl fN)), pts aL (.inl (G.2.1 0, 89, .inl fL)), pts aP (.inl (G.2.1 0, 89, .inl fP)), pts aD (.inl (G.2.1 0, 1246, .inl fD)), pts aK (.inl (G.2.1 0, 178, .inl fK)), pts aZ (.inl (G.2.1 2, 2, .inl fZ)), pts aG (.inl (G.2.1 0, 18, .inl fG)), pts aB (.inl (G.2.1 0, 5, .inl fB)), pts aS (.inl (G.2.1 0, 5, .inl fS)), pts mo (.inr (3, [.int (nI x9), .ref aT, .int (nI T.length), .ref aN, .ref aL, .ref aP, .ref aD, .int (nI hs.length), .ref aK, .ref aZ, .ref aG, .ref aB, .int (nI bl), .int bp, .ref aS, .int (nI tl)]))] H := hSep
    refine b_if_eq (tgt := 24) hx hb dX4_play_19 (by decide) (fun c19 => ?_) (fun c19 => ?_)
    · obtain ⟨hx0, hgd⟩ := hrf.resolve_left (fun h => h.1 (by have := of_decide_eq_false c19; omega))
      subst hx0
      refine lv_aload_n hx hb dX4_play_24 rfl (lv_at hl 0 rfl) ?_
      obtain ⟨Fk_4, hFk_4, hPk_4, hJk_4⟩ := hSep.cut (Pc := [pts mo (.inr (3, [.int (nI 0), .ref aT, .int (nI T.length), .ref aN, .ref aL, .ref aP, .ref aD, .int (nI hs.length), .ref aK, .ref aZ, .ref aG, .ref aB, .int (nI bl), .int bp, .ref aS, .int (nI tl)])), pts aN (.inl (G.2.1 0, 89, .inl fN)), pts aD (.inl (G.2.1 0, 1246, .inl fD))]) (Pr := [pts aT (.inl (G.2.1 0, 20, .inl fT)), pts aL (.inl (G.2.1 0, 89, .inl fL)), pts aP (.inl (G.2.1 0, 89, .inl fP)), pts aK (.inl (G.2.1 0, 178, .inl fK)), pts aZ (.inl (G.2.1 2, 2, .inl fZ)), pts aG (.inl (G.2.1 0, 18, .inl fG)), pts aB (.inl (G.2.1 0, 5, .inl fB)), pts aS (.inl (G.2.1 0, 5, .inl fS))]) (fun q h => Fz.new (Nat.le_trans hS.1 h)) [10, 1, 4] [0, 2, 3, 5, 6, 7, 8, 9] rfl rfl rfl rfl (by decide)
      refine c_v (va_runV (As := []) (rest := []) ⟨hx, hb, hml, hown, hts⟩ (m_X4_remember l G Fk_4 H.size mo (nI 0) aT T.length aN aL aP aD hs.length aK aZ aG aB bl bp aS tl hs g fN fD (rfl) (hC.2.1) (he) (hg)) (cwV 0 hts (lw_V q1612 q1614 qs24 q44 q1615) rfl rfl rfl (by decide +kernel) ⟨Nat.le_of_ble_eq_true rfl, Nat.le_of_ble_eq_true rfl⟩) (sp_preV hE hS hFk_4 hPk_4 trivial (sp_recv (ci := 3) hK (hSep.cel (k := 10) rfl) rfl)) rfl rfl hl.1 rfl (lv_room (Nat.le_of_ble_eq_true rfl)) dX4_play_25 ⟨by first | exact Nat.le_of_ble_eq_true rfl | omega | (dsimp only; omega), by first | exact Nat.le_of_ble_eq_true rfl | omega | (dsimp only; omega)⟩) hS hFk_4 hJk_4 (fun u_6 H locs hpk_4 hSep hS hzk_4 => ?_)
      obtain ⟨fD5, rfl⟩ : ∃ z, z = u_6 := ⟨_, rfl⟩
      have hpk_4 : histC (pushH hs g) fD5 := hpk_4
      refine W.cs (cells' := 0) (slots' := 0) rfl rfl ?_
      have hSep : Sep G.1 clA (Fz F s.heap.size) [pts aT (.inl (G.2.1 0, 20, .inl fT)), pts aL (.inl (G.2.1 0, 89, .inl fL)), pts aP (.inl (G.2.1 0, 89, .inl fP)), pts aK (.inl (G.2.1 0, 178, .inl fK)), pts aZ (.inl (G.2.1 2, 2, .inl fZ)), pts aG (.inl (G.2.1 0, 18, .inl fG)), pts aB (.inl (G.2.1 0, 5, .inl fB)), pts aS (.inl (G.2.1 0, 5, .inl fS)), pts mo (.inr (3, [.int (nI 0), .ref aT, .int (nI T.length), .ref aN, .ref aL, .ref aP, .ref aD, .int (nI ((pushH hs g).length)), .ref aK, .ref aZ, .ref aG, .ref aB, .int (nI bl), .int bp, .ref aS, .int (nI tl)])), pts aN (.inl (G.2.1 0, 89, .inl fN)), pts aD (.inl (G.2.1 0, 1246, .inl fD5))] H := hSep
      have hH5 := hpk_4
      refine lv_aload_n hx hb dX4_play_28 rfl (lv_at hl 0 rfl) ?_
      refine lv_aload_n hx hb dX4_play_29 rfl (lv_at hl 0 rfl) ?_
      refine va_get (D := G.1) (ci := 3) (v := .ref aN) (C := RX4) (T := TX4) (N := 16) hx hb hts in_X4 hown hK (hSep.cel (k := 8) rfl) 0 rfl rfl 3 (by decide) (hts _ q1476) (fun _ h9 => h9) rfl dX4_play_30 ?_
      obtain ⟨Fk_7, hFk_7, hPk_7, hJk_7⟩ := hSep.cut (Pc := [pts mo (.inr (3, [.int (nI 0), .ref aT, .int (nI T.length), .ref aN, .ref aL, .ref aP, .ref aD, .int (nI ((pushH hs g).length)), .ref aK, .ref aZ, .ref aG, .ref aB, .int (nI bl), .int bp, .ref aS, .int (nI tl)])), pts aN (.inl (G.2.1 0, 89, .inl fN)), pts aS (.inl (G.2.1 0, 5, .inl fS)), pts aG (.inl (G.2.1 0, 18, .inl fG)), pts aB (.inl (G.2.1 0, 5, .inl fB)), pts aP (.inl (G.2.1 0, 89, .inl fP))]) (Pr := [pts aT (.inl (G.2.1 0, 20, .inl fT)), pts aL (.inl (G.2.1 0, 89, .inl fL)), pts aK (.inl (G.2.1 0, 178, .inl fK)), pts aZ (.inl (G.2.1 2, 2, .inl fZ)), pts aD (.inl (G.2.1 0, 1246, .inl fD5))]) (fun q h => Fz.new (Nat.le_trans hS.1 h)) [8, 9, 7, 5, 6, 2] [0, 1, 3, 4, 10] rfl rfl rfl rfl (by decide)
      refine c_i (va_runV (As := [.ref aN]) (rest := []) ⟨hx, hb, hml, hown, hts⟩ (m_X4_playOn l G Fk_7 H.size mo (nI 0) aT T.length aN aL aP aD ((pushH hs g).length) aK aZ aG aB bl bp aS tl aN fN g fS fG fB fP (he) (by first | assumption | omega)) (cwV 1 hts (lw_V q1678 q1680 qs29 q44 q1681) rfl rfl rfl (by decide +kernel) ⟨Nat.le_of_ble_eq_true rfl, Nat.le_of_ble_eq_true rfl⟩) (sp_preV hE hS hFk_7 hPk_7 trivial (sp_recv (ci := 3) hK (hSep.cel (k := 8) rfl) rfl)) rfl rfl hl.1 rfl (lv_room (Nat.le_of_ble_eq_true rfl)) dX4_play_33 ⟨by first | exact Nat.le_of_ble_eq_true rfl | omega | (dsimp only; omega), by first | exact Nat.le_of_ble_eq_true rfl | omega | (dsimp only; omega)⟩) hS hFk_7 hJk_7 (fun r_8 u_9 H locs hpk_7 hSep hS hzk_7 => ?_)
      obtain ⟨f8, bl4_10, bp4_11, tl4_12, fS4_13, fG4_14, fB4_15, fP4_16⟩ := u_9
      obtain ⟨rfl, hpk_7⟩ : r_8 = ((gPlay g).2) ∧ Enc f8 (gPlay g).1 ∧ ¬ (gPlay g).2 < -1 := hpk_7
      refine W.cs (cells' := 0) (slots' := 0) rfl rfl ?_
      have hSep : Sep G.1 clA (Fz F s.heap.size) [pts aT (.inl (G.2.1 0, 20, .inl fT)), pts aL (.inl (G.2.1 0, 89, .inl fL)), pts aK (.inl (G.2.1 0, 178, .inl fK)), pts aZ (.inl (G.2.1 2, 2, .inl fZ)), pts aD (.inl (G.2.1 0, 1246, .inl fD5)), pts mo (.inr (3, [.int (nI 0), .ref aT, .int (nI T.length), .ref aN, .ref aL, .ref aP, .ref aD, .int (nI ((pushH hs g).length)), .ref aK, .ref aZ, .ref aG, .ref aB, .int (nI bl4_10), .int bp4_11, .ref aS, .int (nI tl4_12)])), pts aN (.inl (G.2.1 0, 89, .inl f8)), pts aS (.inl (G.2.1 0, 5, .inl fS4_13)), pts aG (.inl (G.2.1 0, 18, .inl fG4_14)), pts aB (.inl (G.2.1 0, 5, .inl fB4_15)), pts aP (.inl (G.2.1 0, 89, .inl fP4_16))] H := hSep
      have hf8 := hpk_7
      have hop : oPlay (g, hs, kp, T) = (0, (gPlay g).2, actd (g, hs, kp, T) (gPlay g).1) := by unfold oPlay; rw [if_neg (by rw [hgd]; decide)]
      rw [hQ]
      exact r_i (r := ((gPlay g).2)) (u := ()) hx hb hr (by rw [hop]; exact fun _ => rfl) (by rw [hop]; exact mod_close (hSep.pick [5, 0, 6, 1, 10, 4, 2, 3, 8, 9, 7] rfl rfl) rfl rfl rfl (⟨⟨gV_of (gOk_play ho) (gPlay_0.trans (gOn_0 hgd)), hf8.1⟩, hH5, hC.2.2⟩)) hS (by first | exact Nat.le_of_ble_eq_true rfl | omega | (dsimp only; omega)) (by first | exact Nat.le_of_ble_eq_true rfl | omega | (dsimp only; omega)) dX4_play_36 hlocks
    · obtain ⟨hx1, hop⟩ := hrf.resolve_right (fun h => absurd (of_decide_eq_true c19) (by rw [h.1]; decide))
      refine lv_iconst (v := (nI 0)) hx hb dX4_play_22 (by decide) ?_
      rw [hQ]
      exact r_i (r := (nI 0)) (u := ()) hx hb hr (by rw [hop]; exact fun h => absurd h hx1) (by rw [hop]; exact mod_close (hSep.pick [10, 0, 1, 2, 3, 4, 5, 6, 7, 8, 9] rfl rfl) rfl rfl rfl hC) hS (by first | exact Nat.le_of_ble_eq_true rfl | omega | (dsimp only; omega)) (by first | exact Nat.le_of_ble_eq_true rfl | omega | (dsimp only; omega)) dX4_play_23 hlocks
  refine lv_aload_n hx hb dX4_play_0 rfl (lv_at hl 0 rfl) ?_
  refine lv_aload_n hx hb dX4_play_1 rfl (lv_at hl 0 rfl) ?_
  refine va_get (D := G.1) (ci := 3) (v := .ref aN) (C := RX4) (T := TX4) (N := 16) hx hb hts in_X4 hown hK (hSep.cel (k := 0) rfl) 0 rfl rfl 3 (by decide) (hts _ q1476) (fun _ h9 => h9) rfl dX4_play_2 ?_
  have hFk_17 : ∀ q, Fz (fun _ => False) s.heap.size q → (Fz F s.heap.size) q := fun q h => by rcases h with h | h; exact h.elim; exact Fz.new (Nat.le_trans hS.1 h)
  have hPk_17 : Sep G.1 clA (Fz (fun _ => False) s.heap.size) [] s.heap := sp_nil
  have hJk_17 := sp_nilJ (F := (fun _ => False)) hSep (fun _ => id) hFk_17
  refine c_i (va_runS (As := [.ref aN]) (rest := [.ref mo]) ⟨hx, hb, hml, hown, hts⟩ (m_X4_isOn l G s.heap.size aN fN g (by first | assumption | omega)) (va_cwS 1 hts (lw_S q1630 q1631 q44 q1632) rfl rfl rfl (by decide +kernel) ⟨Nat.le_of_ble_eq_true rfl, Nat.le_of_ble_eq_true rfl⟩) (sp_preS hE hS hFk_17 hPk_17 (hSep.cel (k := 2) rfl)) rfl rfl hl.1 rfl (lv_room (Nat.le_of_ble_eq_true rfl)) dX4_play_5 ⟨by first | exact Nat.le_of_ble_eq_true rfl | omega | (dsimp only; omega), by first | exact Nat.le_of_ble_eq_true rfl | omega | (dsimp only; omega)⟩) hS hFk_17 hJk_17 (fun r_18 u_19 H locs hpk_17 hSep hS hzk_17 => ?_)
  obtain rfl : r_18 = (bI (gOn g)) := hpk_17
  refine W.cs (cells' := 0) (slots' := 0) rfl rfl ?_
  have hSep : Sep G.1 clA (Fz F s.heap.size) [pts mo (.inr (3, [.int rf, .ref aT, .int (nI T.length), .ref aN, .ref aL, .ref aP, .ref aD, .int (nI hs.length), .ref aK, .ref aZ, .ref aG, .ref aB, .int (nI bl), .int bp, .ref aS, .int (nI tl)])), pts aT (.inl (G.2.1 0, 20, .inl fT)), pts aN (.inl (G.2.1 0, 89, .inl fN)), pts aL (.inl (G.2.1 0, 89, .inl fL)), pts aP (.inl (G.2.1 0, 89, .inl fP)), pts aD (.inl (G.2.1 0, 1246, .inl fD)), pts aK (.inl (G.2.1 0, 178, .inl fK)), pts aZ (.inl (G.2.1 2, 2, .inl fZ)), pts aG (.inl (G.2.1 0, 18, .inl fG)), pts aB (.inl (G.2.1 0, 5, .inl fB)), pts aS (.inl (G.2.1 0, 5, .inl fS))] H := hSep
  refine b_if_eq (tgt := 15) hx hb dX4_play_8 (by decide) (fun c8 => ?_) (fun c8 => ?_)
  · refine lv_iconst (v := (nI 1)) hx hb dX4_play_15 (by decide) ?_
    exact L16 1 (Or.inl ⟨by decide, by unfold oPlay; rw [if_pos c8]⟩) (by decide) _ _ _ hSep hS (lv_sub hl [0] rfl)
  · refine lv_iconst (v := (nI 0)) hx hb dX4_play_11 (by decide) ?_
    refine lv_goto (tgt := 16) hx hb dX4_play_12 (by decide) ?_
    exact L16 0 (Or.inr ⟨rfl, c8⟩) (by decide) _ _ _ hSep hS (lv_sub hl [0] rfl)

set_option maxHeartbeats 600000 in
set_option maxRecDepth 100000 in
theorem m_X4_set (l : Launch) (G : EVT) (F : Nat → Prop) (sz : Nat) (mo : Nat) (rf : Int32) (σ : MS) (x : Int32) (y : Int32)  : Met l yX4_set (ws_ yX4_set cX4_set 4 (some .int)) ({ frames := 2, cells := 0, slots := 0, locals := 46 } : Room) (SPc G F sz [.ref mo, .int x, .int y] [modA G mo rf σ] (fun _ => True)) (SQi G F sz (fun (r : Int32) (u : Unit) => (oSet σ x y).1 = 0 → r = (oSet σ x y).2.1) (fun (u : Unit) => [modA G mo (nI (oSet σ x y).1) (oSet σ x y).2.2])) (0) (0) (Fz F sz) := by
  refine sp_of RX4 (by decide) rfl (Nat.le_of_ble_eq_true rfl) ?_
  intro p e s m args below meth c ls QQ hx hb hr hts hown hlocks hml hnm hsz hSep hΦ hE hS hl hQ
  subst hsz
  have hK := hE.1
  have hl : lv_has ls 4 [(0, .ref mo), (1, .int x), (2, .int y)] := hl
  obtain ⟨g, hs, kp, T⟩ := σ
  obtain ⟨aT, aN, aL, aP, aD, aK, aZ, aG, aB, aS, bl, bp, tl, fT, fN, fL, fP, fD, fK, fZ, fG, fB, fS, hC, hSep⟩ := mod_unpk hSep
  have hg : gV g := hC.1.1
  have ho : gOk g := hC.1.1.1
  have he : Enc fN g := hC.1.2
  have hT : Pre fT T := hC.2.2.2.1
  have hT20 : T.length ≤ 20 := hC.2.2.2.2.1
  have hT256 : ∀ w ∈ T, w < 256 := hC.2.2.2.2.2
  have hD14 : hs.length ≤ 14 := hC.2.1.1
  have L14 : ∀ (x9 : Nat) , ((x9 ≠ 0 ∧ oSet (g, hs, kp, T) x y = (x9, 0, (g, hs, kp, T))) ∨ (x9 = 0 ∧ setOk x y = true)) → (x9 < 3) → ∀ (H : Heap) (locs : List Loc) (ls : Array Slot), Sep G.1 clA (Fz F s.heap.size) [pts mo (.inr (3, [.int rf, .ref aT, .int (nI T.length), .ref aN, .ref aL, .ref aP, .ref aD, .int (nI hs.length), .ref aK, .ref aZ, .ref aG, .ref aB, .int (nI bl), .int bp, .ref aS, .int (nI tl)])), pts aT (.inl (G.2.1 0, 20, .inl fT)), pts aN (.inl (G.2.1 0, 89, .inl fN)), pts aL (.inl (G.2.1 0, 89, .inl fL)), pts aP (.inl (G.2.1 0, 89, .inl fP)), pts aD (.inl (G.2.1 0, 1246, .inl fD)), pts aK (.inl (G.2.1 0, 178, .inl fK)), pts aZ (.inl (G.2.1 2, 2, .inl fZ)), pts aG (.inl (G.2.1 0, 18, .inl fG)), pts aB (.inl (G.2.1 0, 5, .inl fB)), pts aS (.inl (G.2.1 0, 5, .inl fS))] H → va_S (Fz F s.heap.size) s.heap H locs → lv_has ls 4 [(0, .ref mo), (1, .int x), (2, .int y)] → W p l e ({ frames := 2, cells := 0, slots := 0, locals := 46 } : Room) s m args below meth c H locs (0) (0) QQ (F0 m 14 ls [.int (nI x9), .ref mo]) := by
    intro x9 hrf hx9 H locs ls hSep hS hl
    obtain ⟨Fk_1, hFk_1, hPk_1, hJk_1⟩ := hSep.cut (Pc := [pts mo (.inr (3, [.int rf, .ref aT, .int (nI T.length), .ref aN, .ref aL, .ref aP, .ref aD, .int (nI hs.length), .ref aK, .ref aZ, .ref aG, .ref aB, .int (nI bl), .int bp, .ref aS, .int (nI tl)]))]) (Pr := [pts aT (.inl (G.2.1 0, 20, .inl fT)), pts aN (.inl (G.2.1 0, 89, .inl fN)), pts aL (.inl (G.2.1 0, 89, .inl fL)), pts aP (.inl (G.2.1 0, 89, .inl fP)), pts aD (.inl (G.2.1 0, 1246, .inl fD)), pts aK (.inl (G.2.1 0, 178, .inl fK)), pts aZ (.inl (G.2.1 2, 2, .inl fZ)), pts aG (.inl (G.2.1 0, 18, .inl fG)), pts aB (.inl (G.2.1 0, 5, .inl fB)), pts aS (.inl (G.2.1 0, 5, .inl fS))]) (fun q h => Fz.new (Nat.le_trans hS.1 h)) [0] [1, 2, 3, 4, 5, 6, 7, 8, 9, 10] rfl rfl rfl rfl (by decide)
    refine c_i (va_runV (As := [.int (nI x9)]) (rest := []) ⟨hx, hb, hml, hown, hts⟩ (m_X4_refused l G Fk_1 H.size mo rf aT T.length aN aL aP aD hs.length aK aZ aG aB bl bp aS tl x9 (by omega)) (cwV 1 hts (lw_V q1535 q1537 qs21 q44 q1538) rfl rfl rfl (by decide +kernel) ⟨Nat.le_of_ble_eq_true rfl, Nat.le_of_ble_eq_true rfl⟩) (sp_preV hE hS hFk_1 hPk_1 trivial (sp_recv (ci := 3) hK (hSep.cel (k := 0) rfl) rfl)) rfl rfl hl.1 rfl (lv_room (Nat.le_of_ble_eq_true rfl)) dX4_set_14 ⟨by first | exact Nat.le_of_ble_eq_true rfl | omega | (dsimp only; omega), by first | exact Nat.le_of_ble_eq_true rfl | omega | (dsimp only; omega)⟩) hS hFk_1 hJk_1 (fun r_2 u_3 H locs hpk_1 hSep hS hzk_1 => ?_)
    obtain rfl : r_2 = (bI (decide (0 < x9))) := hpk_1
    refine W.cs (cells' := 0) (slots' := 0) rfl rfl ?_
    have hSep : Sep G.1 clA (Fz F s.heap.size) [pts aT (.inl (G.2.1 0, 20, .inl fT)), pts aN (.inl (G.2.1 0, 89, .inl fN)), pts aL (.inl (G.2.1 0, 89, .inl fL)), pts aP (.inl (G.2.1 0, 89, .inl fP)), pts aD (.inl (G.2.1 0, 1246, .inl fD)), pts aK (.inl (G.2.1 0, 178, .inl fK)), pts aZ (.inl (G.2.1 2, 2, .inl fZ)), pts aG (.inl (G.2.1 0, 18, .inl fG)), pts aB (.inl (G.2.1 0, 5, .inl fB)), pts aS (.inl (G.2.1 0, 5, .inl fS)), pts mo (.inr (3, [.int (nI x9), .ref aT, .int (nI T.length), .ref aN, .ref aL, .ref aP, .ref aD, .int (nI hs.length), .ref aK, .ref aZ, .ref aG, .ref aB, .int (nI bl), .int bp, .ref aS, .int (nI tl)]))] H := hSep
    refine b_if_eq (tgt := 22) hx hb dX4_set_17 (by decide) (fun c17 => ?_) (fun c17 => ?_)
    · obtain ⟨hx0, hgd⟩ := hrf.resolve_left (fun h => h.1 (by have := of_decide_eq_false c17; omega))
      subst hx0
      obtain ⟨n9, hn91, hn92, rfl⟩ := inR_n (n := 3) (setOk_1 hgd)
      refine lv_aload_n hx hb dX4_set_22 rfl (lv_at hl 0 rfl) ?_
      obtain ⟨Fk_4, hFk_4, hPk_4, hJk_4⟩ := hSep.cut (Pc := [pts mo (.inr (3, [.int (nI 0), .ref aT, .int (nI T.length), .ref aN, .ref aL, .ref aP, .ref aD, .int (nI hs.length), .ref aK, .ref aZ, .ref aG, .ref aB, .int (nI bl), .int bp, .ref aS, .int (nI tl)])), pts aN (.inl (G.2.1 0, 89, .inl fN)), pts aD (.inl (G.2.1 0, 1246, .inl fD))]) (Pr := [pts aT (.inl (G.2.1 0, 20, .inl fT)), pts aL (.inl (G.2.1 0, 89, .inl fL)), pts aP (.inl (G.2.1 0, 89, .inl fP)), pts aK (.inl (G.2.1 0, 178, .inl fK)), pts aZ (.inl (G.2.1 2, 2, .inl fZ)), pts aG (.inl (G.2.1 0, 18, .inl fG)), pts aB (.inl (G.2.1 0, 5, .inl fB)), pts aS (.inl (G.2.1 0, 5, .inl fS))]) (fun q h => Fz.new (Nat.le_trans hS.1 h)) [10, 1, 4] [0, 2, 3, 5, 6, 7, 8, 9] rfl rfl rfl rfl (by decide)
      refine c_v (va_runV (As := []) (rest := []) ⟨hx, hb, hml, hown, hts⟩ (m_X4_remember l G Fk_4 H.size mo (nI 0) aT T.length aN aL aP aD hs.length aK aZ aG aB bl bp aS tl hs g fN fD (rfl) (hC.2.1) (he) (hg)) (cwV 0 hts (lw_V q1612 q1614 qs24 q44 q1615) rfl rfl rfl (by decide +kernel) ⟨Nat.le_of_ble_eq_true rfl, Nat.le_of_ble_eq_true rfl⟩) (sp_preV hE hS hFk_4 hPk_4 trivial (sp_recv (ci := 3) hK (hSep.cel (k := 10) rfl) rfl)) rfl rfl hl.1 rfl (lv_room (Nat.le_of_ble_eq_true rfl)) dX4_set_23 ⟨by first | exact Nat.le_of_ble_eq_true rfl | omega | (dsimp only; omega), by first | exact Nat.le_of_ble_eq_true rfl | omega | (dsimp only; omega)⟩) hS hFk_4 hJk_4 (fun u_6 H locs hpk_4 hSep hS hzk_4 => ?_)
      obtain ⟨fD5, rfl⟩ : ∃ z, z = u_6 := ⟨_, rfl⟩
      have hpk_4 : histC (pushH hs g) fD5 := hpk_4
      refine W.cs (cells' := 0) (slots' := 0) rfl rfl ?_
      have hSep : Sep G.1 clA (Fz F s.heap.size) [pts aT (.inl (G.2.1 0, 20, .inl fT)), pts aL (.inl (G.2.1 0, 89, .inl fL)), pts aP (.inl (G.2.1 0, 89, .inl fP)), pts aK (.inl (G.2.1 0, 178, .inl fK)), pts aZ (.inl (G.2.1 2, 2, .inl fZ)), pts aG (.inl (G.2.1 0, 18, .inl fG)), pts aB (.inl (G.2.1 0, 5, .inl fB)), pts aS (.inl (G.2.1 0, 5, .inl fS)), pts mo (.inr (3, [.int (nI 0), .ref aT, .int (nI T.length), .ref aN, .ref aL, .ref aP, .ref aD, .int (nI ((pushH hs g).length)), .ref aK, .ref aZ, .ref aG, .ref aB, .int (nI bl), .int bp, .ref aS, .int (nI tl)])), pts aN (.inl (G.2.1 0, 89, .inl fN)), pts aD (.inl (G.2.1 0, 1246, .inl fD5))] H := hSep
      have hH5 := hpk_4
      refine lv_aload_n hx hb dX4_set_26 rfl (lv_at hl 0 rfl) ?_
      refine va_get (D := G.1) (ci := 3) (v := .ref aN) (C := RX4) (T := TX4) (N := 16) hx hb hts in_X4 hown hK (hSep.cel (k := 8) rfl) 0 rfl rfl 3 (by decide) (hts _ q1476) (fun _ h9 => h9) rfl dX4_set_27 ?_
      refine lv_bipush (v := (nI 7)) hx hb dX4_set_30 (by decide) ?_
      refine lv_iload_n hx hb dX4_set_32 rfl (lv_at hl 1 rfl) ?_
      refine n_iadd hx hb dX4_set_33 ?_
      refine n_iald (i := 7 + n9) hx hb hK (hSep.cel (k := 9) rfl) 0 rfl (by omega) (by omega) dX4_set_34 ?_
      refine n_eq (y := (g.1 (7 + n9))) (he.num (by omega)) ?_
      refine lv_istore_n (lv' := [(3, .int (g.1 (7 + n9))), (0, .ref mo), (1, .int (nI n9)), (2, .int y)]) hx hb dX4_set_35 rfl hl (by decide) rfl (fun ls hl => ?_)
      refine lv_aload_n hx hb dX4_set_36 rfl (lv_at hl 1 rfl) ?_
      refine va_get (D := G.1) (ci := 3) (v := .ref aN) (C := RX4) (T := TX4) (N := 16) hx hb hts in_X4 hown hK (hSep.cel (k := 8) rfl) 0 rfl rfl 3 (by decide) (hts _ q1476) (fun _ h9 => h9) rfl dX4_set_37 ?_
      refine lv_bipush (v := (nI 7)) hx hb dX4_set_40 (by decide) ?_
      refine lv_iload_n hx hb dX4_set_42 rfl (lv_at hl 2 rfl) ?_
      refine n_iadd hx hb dX4_set_43 ?_
      refine lv_iload_n hx hb dX4_set_44 rfl (lv_at hl 3 rfl) ?_
      refine n_iast (i := 7 + n9) (x := y) (y := y) hx hb hK hSep hS 9 rfl 0 rfl (by omega) (by omega) (rfl) dX4_set_45 (fun H locs hSep hS => ?_)
      have hSep : Sep G.1 clA (Fz F s.heap.size) [pts aT (.inl (G.2.1 0, 20, .inl fT)), pts aL (.inl (G.2.1 0, 89, .inl fL)), pts aP (.inl (G.2.1 0, 89, .inl fP)), pts aK (.inl (G.2.1 0, 178, .inl fK)), pts aZ (.inl (G.2.1 2, 2, .inl fZ)), pts aG (.inl (G.2.1 0, 18, .inl fG)), pts aB (.inl (G.2.1 0, 5, .inl fB)), pts aS (.inl (G.2.1 0, 5, .inl fS)), pts mo (.inr (3, [.int (nI 0), .ref aT, .int (nI T.length), .ref aN, .ref aL, .ref aP, .ref aD, .int (nI ((pushH hs g).length)), .ref aK, .ref aZ, .ref aG, .ref aB, .int (nI bl), .int bp, .ref aS, .int (nI tl)])), pts aN (.inl (G.2.1 0, 89, .inl (upd fN (7 + n9) y))), pts aD (.inl (G.2.1 0, 1246, .inl fD5))] H := hSep
      refine lv_iload_n hx hb dX4_set_46 rfl (lv_at hl 0 rfl) ?_
      have hop : oSet (g, hs, kp, T) (nI n9) y = (0, g.1 (7 + n9), actd (g, hs, kp, T) (gset g (7 + n9) y)) := by unfold oSet; rw [if_neg (by rw [hgd]; decide), nI_toInt hn92, Int.toNat_natCast]
      rw [hQ]
      exact r_i (r := (g.1 (7 + n9))) (u := ()) hx hb hr (by rw [hop]; exact fun _ => rfl) (by rw [hop]; exact mod_close (hSep.pick [8, 0, 9, 1, 2, 10, 3, 4, 5, 6, 7] rfl rfl) rfl rfl rfl (⟨⟨gV_set hg (by omega) hgd, he.setn _ (by omega)⟩, hH5, hC.2.2⟩)) hS (by first | exact Nat.le_of_ble_eq_true rfl | omega | (dsimp only; omega)) (by first | exact Nat.le_of_ble_eq_true rfl | omega | (dsimp only; omega)) dX4_set_47 hlocks
    · obtain ⟨hx1, hop⟩ := hrf.resolve_right (fun h => absurd (of_decide_eq_true c17) (by rw [h.1]; decide))
      refine lv_iconst (v := (nI 0)) hx hb dX4_set_20 (by decide) ?_
      rw [hQ]
      exact r_i (r := (nI 0)) (u := ()) hx hb hr (by rw [hop]; exact fun h => absurd h hx1) (by rw [hop]; exact mod_close (hSep.pick [10, 0, 1, 2, 3, 4, 5, 6, 7, 8, 9] rfl rfl) rfl rfl rfl hC) hS (by first | exact Nat.le_of_ble_eq_true rfl | omega | (dsimp only; omega)) (by first | exact Nat.le_of_ble_eq_true rfl | omega | (dsimp only; omega)) dX4_set_21 hlocks
  refine lv_aload_n hx hb dX4_set_0 rfl (lv_at hl 0 rfl) ?_
  refine lv_iload_n hx hb dX4_set_1 rfl (lv_at hl 1 rfl) ?_
  refine lv_iload_n hx hb dX4_set_2 rfl (lv_at hl 2 rfl) ?_
  have hFk_7 : ∀ q, Fz (fun _ => False) s.heap.size q → (Fz F s.heap.size) q := fun q h => by rcases h with h | h; exact h.elim; exact Fz.new (Nat.le_trans hS.1 h)
  have hPk_7 : Sep G.1 clA (Fz (fun _ => False) s.heap.size) [] s.heap := sp_nil
  have hJk_7 := sp_nilJ (F := (fun _ => False)) hSep (fun _ => id) hFk_7
  refine c_i (va_runS (As := [.int x, .int y]) (rest := [.ref mo]) ⟨hx, hb, hml, hown, hts⟩ (m_X4_isSetting l G s.heap.size x y ) (va_cwS 2 hts (lw_S q1710 q1711 q44 q1712) rfl rfl rfl (by decide +kernel) ⟨Nat.le_of_ble_eq_true rfl, Nat.le_of_ble_eq_true rfl⟩) (sp_preS hE hS hFk_7 hPk_7 trivial) rfl rfl hl.1 rfl (lv_room (Nat.le_of_ble_eq_true rfl)) dX4_set_3 ⟨by first | exact Nat.le_of_ble_eq_true rfl | omega | (dsimp only; omega), by first | exact Nat.le_of_ble_eq_true rfl | omega | (dsimp only; omega)⟩) hS hFk_7 hJk_7 (fun r_8 u_9 H locs hpk_7 hSep hS hzk_7 => ?_)
  obtain rfl : r_8 = (bI (setOk x y)) := hpk_7
  refine W.cs (cells' := 0) (slots' := 0) rfl rfl ?_
  have hSep : Sep G.1 clA (Fz F s.heap.size) [pts mo (.inr (3, [.int rf, .ref aT, .int (nI T.length), .ref aN, .ref aL, .ref aP, .ref aD, .int (nI hs.length), .ref aK, .ref aZ, .ref aG, .ref aB, .int (nI bl), .int bp, .ref aS, .int (nI tl)])), pts aT (.inl (G.2.1 0, 20, .inl fT)), pts aN (.inl (G.2.1 0, 89, .inl fN)), pts aL (.inl (G.2.1 0, 89, .inl fL)), pts aP (.inl (G.2.1 0, 89, .inl fP)), pts aD (.inl (G.2.1 0, 1246, .inl fD)), pts aK (.inl (G.2.1 0, 178, .inl fK)), pts aZ (.inl (G.2.1 2, 2, .inl fZ)), pts aG (.inl (G.2.1 0, 18, .inl fG)), pts aB (.inl (G.2.1 0, 5, .inl fB)), pts aS (.inl (G.2.1 0, 5, .inl fS))] H := hSep
  refine b_if_eq (tgt := 13) hx hb dX4_set_6 (by decide) (fun c6 => ?_) (fun c6 => ?_)
  · refine lv_iconst (v := (nI 1)) hx hb dX4_set_13 (by decide) ?_
    exact L14 1 (Or.inl ⟨by decide, by unfold oSet; rw [if_pos c6]⟩) (by decide) _ _ _ hSep hS (lv_sub hl [0, 1, 2] rfl)
  · refine lv_iconst (v := (nI 0)) hx hb dX4_set_9 (by decide) ?_
    refine lv_goto (tgt := 14) hx hb dX4_set_10 (by decide) ?_
    exact L14 0 (Or.inr ⟨rfl, c6⟩) (by decide) _ _ _ hSep hS (lv_sub hl [0, 1, 2] rfl)

set_option maxHeartbeats 600000 in
set_option maxRecDepth 100000 in
theorem m_X4_undo (l : Launch) (G : EVT) (F : Nat → Prop) (sz : Nat) (mo : Nat) (rf : Int32) (σ : MS)  : Met l yX4_undo (ws_ yX4_undo cX4_undo 1 (some .int)) ({ frames := 1, cells := 0, slots := 0, locals := 24 } : Room) (SPc G F sz [.ref mo] [modA G mo rf σ] (fun _ => True)) (SQi G F sz (fun (r : Int32) (u : Unit) => (oUndo σ).1 = 0 → r = (oUndo σ).2.1) (fun (u : Unit) => [modA G mo (nI (oUndo σ).1) (oUndo σ).2.2])) (0) (0) (Fz F sz) := by
  refine sp_of RX4 (by decide) rfl (Nat.le_of_ble_eq_true rfl) ?_
  intro p e s m args below meth c ls QQ hx hb hr hts hown hlocks hml hnm hsz hSep hΦ hE hS hl hQ
  subst hsz
  have hK := hE.1
  have hl : lv_has ls 1 [(0, .ref mo)] := hl
  obtain ⟨g, hs, kp, T⟩ := σ
  obtain ⟨aT, aN, aL, aP, aD, aK, aZ, aG, aB, aS, bl, bp, tl, fT, fN, fL, fP, fD, fK, fZ, fG, fB, fS, hC, hSep⟩ := mod_unpk hSep
  have hg : gV g := hC.1.1
  have ho : gOk g := hC.1.1.1
  have he : Enc fN g := hC.1.2
  have hT : Pre fT T := hC.2.2.2.1
  have hT20 : T.length ≤ 20 := hC.2.2.2.2.1
  have hT256 : ∀ w ∈ T, w < 256 := hC.2.2.2.2.2
  have hD14 : hs.length ≤ 14 := hC.2.1.1
  have L13 : ∀ (x9 : Nat) , ((x9 ≠ 0 ∧ oUndo (g, hs, kp, T) = (x9, 0, (g, hs, kp, T))) ∨ (x9 = 0 ∧ ¬ hs.length = 0)) → (x9 < 3) → ∀ (H : Heap) (locs : List Loc) (ls : Array Slot), Sep G.1 clA (Fz F s.heap.size) [pts mo (.inr (3, [.int rf, .ref aT, .int (nI T.length), .ref aN, .ref aL, .ref aP, .ref aD, .int (nI hs.length), .ref aK, .ref aZ, .ref aG, .ref aB, .int (nI bl), .int bp, .ref aS, .int (nI tl)])), pts aT (.inl (G.2.1 0, 20, .inl fT)), pts aN (.inl (G.2.1 0, 89, .inl fN)), pts aL (.inl (G.2.1 0, 89, .inl fL)), pts aP (.inl (G.2.1 0, 89, .inl fP)), pts aD (.inl (G.2.1 0, 1246, .inl fD)), pts aK (.inl (G.2.1 0, 178, .inl fK)), pts aZ (.inl (G.2.1 2, 2, .inl fZ)), pts aG (.inl (G.2.1 0, 18, .inl fG)), pts aB (.inl (G.2.1 0, 5, .inl fB)), pts aS (.inl (G.2.1 0, 5, .inl fS))] H → va_S (Fz F s.heap.size) s.heap H locs → lv_has ls 1 [(0, .ref mo)] → W p l e ({ frames := 1, cells := 0, slots := 0, locals := 24 } : Room) s m args below meth c H locs (0) (0) QQ (F0 m 13 ls [.int (nI x9), .ref mo]) := by
    intro x9 hrf hx9 H locs ls hSep hS hl
    obtain ⟨Fk_1, hFk_1, hPk_1, hJk_1⟩ := hSep.cut (Pc := [pts mo (.inr (3, [.int rf, .ref aT, .int (nI T.length), .ref aN, .ref aL, .ref aP, .ref aD, .int (nI hs.length), .ref aK, .ref aZ, .ref aG, .ref aB, .int (nI bl), .int bp, .ref aS, .int (nI tl)]))]) (Pr := [pts aT (.inl (G.2.1 0, 20, .inl fT)), pts aN (.inl (G.2.1 0, 89, .inl fN)), pts aL (.inl (G.2.1 0, 89, .inl fL)), pts aP (.inl (G.2.1 0, 89, .inl fP)), pts aD (.inl (G.2.1 0, 1246, .inl fD)), pts aK (.inl (G.2.1 0, 178, .inl fK)), pts aZ (.inl (G.2.1 2, 2, .inl fZ)), pts aG (.inl (G.2.1 0, 18, .inl fG)), pts aB (.inl (G.2.1 0, 5, .inl fB)), pts aS (.inl (G.2.1 0, 5, .inl fS))]) (fun q h => Fz.new (Nat.le_trans hS.1 h)) [0] [1, 2, 3, 4, 5, 6, 7, 8, 9, 10] rfl rfl rfl rfl (by decide)
    refine c_i (va_runV (As := [.int (nI x9)]) (rest := []) ⟨hx, hb, hml, hown, hts⟩ (m_X4_refused l G Fk_1 H.size mo rf aT T.length aN aL aP aD hs.length aK aZ aG aB bl bp aS tl x9 (by omega)) (cwV 1 hts (lw_V q1535 q1537 qs21 q44 q1538) rfl rfl rfl (by decide +kernel) ⟨Nat.le_of_ble_eq_true rfl, Nat.le_of_ble_eq_true rfl⟩) (sp_preV hE hS hFk_1 hPk_1 trivial (sp_recv (ci := 3) hK (hSep.cel (k := 0) rfl) rfl)) rfl rfl hl.1 rfl (lv_room (Nat.le_of_ble_eq_true rfl)) dX4_undo_13 ⟨by first | exact Nat.le_of_ble_eq_true rfl | omega | (dsimp only; omega), by first | exact Nat.le_of_ble_eq_true rfl | omega | (dsimp only; omega)⟩) hS hFk_1 hJk_1 (fun r_2 u_3 H locs hpk_1 hSep hS hzk_1 => ?_)
    obtain rfl : r_2 = (bI (decide (0 < x9))) := hpk_1
    refine W.cs (cells' := 0) (slots' := 0) rfl rfl ?_
    have hSep : Sep G.1 clA (Fz F s.heap.size) [pts aT (.inl (G.2.1 0, 20, .inl fT)), pts aN (.inl (G.2.1 0, 89, .inl fN)), pts aL (.inl (G.2.1 0, 89, .inl fL)), pts aP (.inl (G.2.1 0, 89, .inl fP)), pts aD (.inl (G.2.1 0, 1246, .inl fD)), pts aK (.inl (G.2.1 0, 178, .inl fK)), pts aZ (.inl (G.2.1 2, 2, .inl fZ)), pts aG (.inl (G.2.1 0, 18, .inl fG)), pts aB (.inl (G.2.1 0, 5, .inl fB)), pts aS (.inl (G.2.1 0, 5, .inl fS)), pts mo (.inr (3, [.int (nI x9), .ref aT, .int (nI T.length), .ref aN, .ref aL, .ref aP, .ref aD, .int (nI hs.length), .ref aK, .ref aZ, .ref aG, .ref aB, .int (nI bl), .int bp, .ref aS, .int (nI tl)]))] H := hSep
    refine b_if_eq (tgt := 21) hx hb dX4_undo_16 (by decide) (fun c16 => ?_) (fun c16 => ?_)
    · obtain ⟨hx0, hgd⟩ := hrf.resolve_left (fun h => h.1 (by have := of_decide_eq_false c16; omega))
      subst hx0
      refine lv_aload_n hx hb dX4_undo_21 rfl (lv_at hl 0 rfl) ?_
      refine lv_dup hx hb dX4_undo_22 rfl ?_
      refine va_get (D := G.1) (ci := 3) (v := .int (nI hs.length)) (C := RX4) (T := TX4) (N := 16) hx hb hts in_X4 hown hK (hSep.cel (k := 10) rfl) 0 rfl rfl 7 (by decide) (hts _ q1480) (fun _ h9 => h9) rfl dX4_undo_23 ?_
      refine lv_iconst (v := (nI 1)) hx hb dX4_undo_26 (by decide) ?_
      refine n_isub hx hb (by omega) dX4_undo_27 ?_
      refine s_put (ci := 3) (v := .int (nI (hs.length - 1))) (ty := .int) (C := RX4) (T := TX4) (N := 16) hx hb hts in_X4 tyX4 tyX4_ok nmX4 hown hK hSep hS 10 rfl rfl 7 (by decide) (hts _ q1480) (fun _ h9 => h9) rfl (by decide +kernel) rfl rfl (Nat.le_of_ble_eq_true rfl) dX4_undo_28 (fun H locs hSep hS => ?_)
      have hSep : Sep G.1 clA (Fz F s.heap.size) [pts aT (.inl (G.2.1 0, 20, .inl fT)), pts aN (.inl (G.2.1 0, 89, .inl fN)), pts aL (.inl (G.2.1 0, 89, .inl fL)), pts aP (.inl (G.2.1 0, 89, .inl fP)), pts aD (.inl (G.2.1 0, 1246, .inl fD)), pts aK (.inl (G.2.1 0, 178, .inl fK)), pts aZ (.inl (G.2.1 2, 2, .inl fZ)), pts aG (.inl (G.2.1 0, 18, .inl fG)), pts aB (.inl (G.2.1 0, 5, .inl fB)), pts aS (.inl (G.2.1 0, 5, .inl fS)), pts mo (.inr (3, [.int (nI 0), .ref aT, .int (nI T.length), .ref aN, .ref aL, .ref aP, .ref aD, .int (nI (hs.length - 1)), .ref aK, .ref aZ, .ref aG, .ref aB, .int (nI bl), .int bp, .ref aS, .int (nI tl)]))] H := hSep
      refine lv_aload_n hx hb dX4_undo_31 rfl (lv_at hl 0 rfl) ?_
      refine va_get (D := G.1) (ci := 3) (v := .ref aD) (C := RX4) (T := TX4) (N := 16) hx hb hts in_X4 hown hK (hSep.cel (k := 10) rfl) 0 rfl rfl 6 (by decide) (hts _ q1479) (fun _ h9 => h9) rfl dX4_undo_32 ?_
      refine lv_bipush (v := (nI 89)) hx hb dX4_undo_35 (by decide) ?_
      refine lv_aload_n hx hb dX4_undo_37 rfl (lv_at hl 0 rfl) ?_
      refine va_get (D := G.1) (ci := 3) (v := .int (nI (hs.length - 1))) (C := RX4) (T := TX4) (N := 16) hx hb hts in_X4 hown hK (hSep.cel (k := 10) rfl) 0 rfl rfl 7 (by decide) (hts _ q1480) (fun _ h9 => h9) rfl dX4_undo_38 ?_
      refine n_imul hx hb dX4_undo_41 ?_
      refine lv_aload_n hx hb dX4_undo_42 rfl (lv_at hl 0 rfl) ?_
      refine va_get (D := G.1) (ci := 3) (v := .ref aN) (C := RX4) (T := TX4) (N := 16) hx hb hts in_X4 hown hK (hSep.cel (k := 10) rfl) 0 rfl rfl 3 (by decide) (hts _ q1476) (fun _ h9 => h9) rfl dX4_undo_43 ?_
      refine lv_iconst (v := (nI 0)) hx hb dX4_undo_46 (by decide) ?_
      obtain ⟨Fk_4, hFk_4, hPk_4, hJk_4⟩ := hSep.cut (Pc := [pts aD (.inl (G.2.1 0, 1246, .inl fD)), pts aN (.inl (G.2.1 0, 89, .inl fN))]) (Pr := [pts aT (.inl (G.2.1 0, 20, .inl fT)), pts aL (.inl (G.2.1 0, 89, .inl fL)), pts aP (.inl (G.2.1 0, 89, .inl fP)), pts aK (.inl (G.2.1 0, 178, .inl fK)), pts aZ (.inl (G.2.1 2, 2, .inl fZ)), pts aG (.inl (G.2.1 0, 18, .inl fG)), pts aB (.inl (G.2.1 0, 5, .inl fB)), pts aS (.inl (G.2.1 0, 5, .inl fS)), pts mo (.inr (3, [.int (nI 0), .ref aT, .int (nI T.length), .ref aN, .ref aL, .ref aP, .ref aD, .int (nI (hs.length - 1)), .ref aK, .ref aZ, .ref aG, .ref aB, .int (nI bl), .int bp, .ref aS, .int (nI tl)]))]) (fun q h => Fz.new (Nat.le_trans hS.1 h)) [4, 1] [0, 2, 3, 5, 6, 7, 8, 9, 10] rfl rfl rfl rfl (by decide)
      refine c_v (va_runS (As := [.ref aD, .int (nI (89 * (hs.length - 1))), .ref aN, .int (nI 0)]) (rest := []) ⟨hx, hb, hml, hown, hts⟩ (m_X4_copyState l G Fk_4 H.size aD 1246 fD (89 * (hs.length - 1)) aN 89 fN 0 (by omega) (by decide) (by decide) (by decide)) (va_cwS 4 hts (lw_S q1616 q1617 q44 q1618) rfl rfl rfl (by decide +kernel) ⟨Nat.le_of_ble_eq_true rfl, Nat.le_of_ble_eq_true rfl⟩) (sp_preS hE hS hFk_4 hPk_4 trivial) rfl rfl hl.1 rfl (lv_room (Nat.le_of_ble_eq_true rfl)) dX4_undo_47 ⟨by first | exact Nat.le_of_ble_eq_true rfl | omega | (dsimp only; omega), by first | exact Nat.le_of_ble_eq_true rfl | omega | (dsimp only; omega)⟩) hS hFk_4 hJk_4 (fun u_6 H locs hpk_4 hSep hS hzk_4 => ?_)
      refine W.cs (cells' := 0) (slots' := 0) rfl rfl ?_
      have hSep : Sep G.1 clA (Fz F s.heap.size) [pts aT (.inl (G.2.1 0, 20, .inl fT)), pts aL (.inl (G.2.1 0, 89, .inl fL)), pts aP (.inl (G.2.1 0, 89, .inl fP)), pts aK (.inl (G.2.1 0, 178, .inl fK)), pts aZ (.inl (G.2.1 2, 2, .inl fZ)), pts aG (.inl (G.2.1 0, 18, .inl fG)), pts aB (.inl (G.2.1 0, 5, .inl fB)), pts aS (.inl (G.2.1 0, 5, .inl fS)), pts mo (.inr (3, [.int (nI 0), .ref aT, .int (nI T.length), .ref aN, .ref aL, .ref aP, .ref aD, .int (nI (hs.length - 1)), .ref aK, .ref aZ, .ref aG, .ref aB, .int (nI bl), .int bp, .ref aS, .int (nI tl)])), pts aD (.inl (G.2.1 0, 1246, .inl fD)), pts aN (.inl (G.2.1 0, 89, .inl (va_cpy fD fN (89 * (hs.length - 1)) 0 89)))] H := hSep
      refine lv_aload_n hx hb dX4_undo_50 rfl (lv_at hl 0 rfl) ?_
      refine va_get (D := G.1) (ci := 3) (v := .int (nI (hs.length - 1))) (C := RX4) (T := TX4) (N := 16) hx hb hts in_X4 hown hK (hSep.cel (k := 8) rfl) 0 rfl rfl 7 (by decide) (hts _ q1480) (fun _ h9 => h9) rfl dX4_undo_51 ?_
      have hop : oUndo (g, hs, kp, T) = (0, nI (hs.length - 1), hs.getD (hs.length - 1) g00, hs.dropLast, kp, T) := by unfold oUndo; rw [if_neg (show ¬ hs.length = 0 from hgd)]
      rw [hQ]
      exact r_i (r := (nI (hs.length - 1))) (u := ()) hx hb hr (by rw [hop]; exact fun _ => rfl) (by rw [hop]; exact mod_close (hSep.pick [8, 0, 10, 1, 2, 9, 3, 4, 5, 6, 7] rfl rfl) rfl rfl (by rw [List.length_dropLast]) (⟨histC.last hC.2.1 (by omega), histC.init hC.2.1, hC.2.2⟩)) hS (by first | exact Nat.le_of_ble_eq_true rfl | omega | (dsimp only; omega)) (by first | exact Nat.le_of_ble_eq_true rfl | omega | (dsimp only; omega)) dX4_undo_54 hlocks
    · obtain ⟨hx1, hop⟩ := hrf.resolve_right (fun h => absurd (of_decide_eq_true c16) (by rw [h.1]; decide))
      refine lv_iconst (v := (nI 0)) hx hb dX4_undo_19 (by decide) ?_
      rw [hQ]
      exact r_i (r := (nI 0)) (u := ()) hx hb hr (by rw [hop]; exact fun h => absurd h hx1) (by rw [hop]; exact mod_close (hSep.pick [10, 0, 1, 2, 3, 4, 5, 6, 7, 8, 9] rfl rfl) rfl rfl rfl hC) hS (by first | exact Nat.le_of_ble_eq_true rfl | omega | (dsimp only; omega)) (by first | exact Nat.le_of_ble_eq_true rfl | omega | (dsimp only; omega)) dX4_undo_20 hlocks
  refine lv_aload_n hx hb dX4_undo_0 rfl (lv_at hl 0 rfl) ?_
  refine lv_aload_n hx hb dX4_undo_1 rfl (lv_at hl 0 rfl) ?_
  refine va_get (D := G.1) (ci := 3) (v := .int (nI hs.length)) (C := RX4) (T := TX4) (N := 16) hx hb hts in_X4 hown hK (hSep.cel (k := 0) rfl) 0 rfl rfl 7 (by decide) (hts _ q1480) (fun _ h9 => h9) rfl dX4_undo_2 ?_
  refine n_if_ne (tgt := 12) hx hb (by omega) dX4_undo_5 (by decide) (fun c5 => ?_) (fun c5 => ?_)
  · refine lv_iconst (v := (nI 0)) hx hb dX4_undo_12 (by decide) ?_
    exact L13 0 (Or.inr ⟨rfl, c5⟩) (by decide) _ _ _ hSep hS (lv_sub hl [0] rfl)
  · refine lv_iconst (v := (nI 1)) hx hb dX4_undo_8 (by decide) ?_
    refine lv_goto (tgt := 13) hx hb dX4_undo_9 (by decide) ?_
    exact L13 1 (Or.inl ⟨by decide, by unfold oUndo; rw [if_pos (show hs.length = 0 from c5)]⟩) (by decide) _ _ _ hSep hS (lv_sub hl [0] rfl)

set_option maxHeartbeats 600000 in
set_option maxRecDepth 100000 in
theorem m_X4_points (l : Launch) (G : EVT) (F : Nat → Prop) (sz : Nat) (mo : Nat) (rf : Int32) (σ : MS) (t : Int32)  : Met l yX4_points (ws_ yX4_points cX4_points 4 (some .int)) ({ frames := 4, cells := 0, slots := 0, locals := 109 } : Room) (SPc G F sz [.ref mo, .int t] [modA G mo rf σ] (fun _ => True)) (SQi G F sz (fun (r : Int32) (u : Unit) => (oPoints σ t).1 = 0 → r = (oPoints σ t).2.1) (fun (u : Unit) => [modA G mo (nI (oPoints σ t).1) (oPoints σ t).2.2])) (0) (0) (Fz F sz) := by
  refine sp_of RX4 (by decide) rfl (Nat.le_of_ble_eq_true rfl) ?_
  intro p e s m args below meth c ls QQ hx hb hr hts hown hlocks hml hnm hsz hSep hΦ hE hS hl hQ
  subst hsz
  have hK := hE.1
  have hl : lv_has ls 4 [(0, .ref mo), (1, .int t)] := hl
  obtain ⟨g, hs, kp, T⟩ := σ
  obtain ⟨aT, aN, aL, aP, aD, aK, aZ, aG, aB, aS, bl, bp, tl, fT, fN, fL, fP, fD, fK, fZ, fG, fB, fS, hC, hSep⟩ := mod_unpk hSep
  have hg : gV g := hC.1.1
  have ho : gOk g := hC.1.1.1
  have he : Enc fN g := hC.1.2
  have hT : Pre fT T := hC.2.2.2.1
  have hT20 : T.length ≤ 20 := hC.2.2.2.2.1
  have hT256 : ∀ w ∈ T, w < 256 := hC.2.2.2.2.2
  have hD14 : hs.length ≤ 14 := hC.2.1.1
  have L13 : ∀ (x9 : Nat) , ((x9 ≠ 0 ∧ oPoints (g, hs, kp, T) t = (x9, 0, (g, hs, kp, T))) ∨ (x9 = 0 ∧ inR t.toInt 0 1 = true)) → (x9 < 3) → ∀ (H : Heap) (locs : List Loc) (ls : Array Slot), Sep G.1 clA (Fz F s.heap.size) [pts mo (.inr (3, [.int rf, .ref aT, .int (nI T.length), .ref aN, .ref aL, .ref aP, .ref aD, .int (nI hs.length), .ref aK, .ref aZ, .ref aG, .ref aB, .int (nI bl), .int bp, .ref aS, .int (nI tl)])), pts aT (.inl (G.2.1 0, 20, .inl fT)), pts aN (.inl (G.2.1 0, 89, .inl fN)), pts aL (.inl (G.2.1 0, 89, .inl fL)), pts aP (.inl (G.2.1 0, 89, .inl fP)), pts aD (.inl (G.2.1 0, 1246, .inl fD)), pts aK (.inl (G.2.1 0, 178, .inl fK)), pts aZ (.inl (G.2.1 2, 2, .inl fZ)), pts aG (.inl (G.2.1 0, 18, .inl fG)), pts aB (.inl (G.2.1 0, 5, .inl fB)), pts aS (.inl (G.2.1 0, 5, .inl fS))] H → va_S (Fz F s.heap.size) s.heap H locs → lv_has ls 4 [(0, .ref mo), (1, .int t)] → W p l e ({ frames := 4, cells := 0, slots := 0, locals := 109 } : Room) s m args below meth c H locs (0) (0) QQ (F0 m 13 ls [.int (nI x9), .ref mo]) := by
    intro x9 hrf hx9 H locs ls hSep hS hl
    obtain ⟨Fk_1, hFk_1, hPk_1, hJk_1⟩ := hSep.cut (Pc := [pts mo (.inr (3, [.int rf, .ref aT, .int (nI T.length), .ref aN, .ref aL, .ref aP, .ref aD, .int (nI hs.length), .ref aK, .ref aZ, .ref aG, .ref aB, .int (nI bl), .int bp, .ref aS, .int (nI tl)]))]) (Pr := [pts aT (.inl (G.2.1 0, 20, .inl fT)), pts aN (.inl (G.2.1 0, 89, .inl fN)), pts aL (.inl (G.2.1 0, 89, .inl fL)), pts aP (.inl (G.2.1 0, 89, .inl fP)), pts aD (.inl (G.2.1 0, 1246, .inl fD)), pts aK (.inl (G.2.1 0, 178, .inl fK)), pts aZ (.inl (G.2.1 2, 2, .inl fZ)), pts aG (.inl (G.2.1 0, 18, .inl fG)), pts aB (.inl (G.2.1 0, 5, .inl fB)), pts aS (.inl (G.2.1 0, 5, .inl fS))]) (fun q h => Fz.new (Nat.le_trans hS.1 h)) [0] [1, 2, 3, 4, 5, 6, 7, 8, 9, 10] rfl rfl rfl rfl (by decide)
    refine c_i (va_runV (As := [.int (nI x9)]) (rest := []) ⟨hx, hb, hml, hown, hts⟩ (m_X4_refused l G Fk_1 H.size mo rf aT T.length aN aL aP aD hs.length aK aZ aG aB bl bp aS tl x9 (by omega)) (cwV 1 hts (lw_V q1535 q1537 qs21 q44 q1538) rfl rfl rfl (by decide +kernel) ⟨Nat.le_of_ble_eq_true rfl, Nat.le_of_ble_eq_true rfl⟩) (sp_preV hE hS hFk_1 hPk_1 trivial (sp_recv (ci := 3) hK (hSep.cel (k := 0) rfl) rfl)) rfl rfl hl.1 rfl (lv_room (Nat.le_of_ble_eq_true rfl)) dX4_points_13 ⟨by first | exact Nat.le_of_ble_eq_true rfl | omega | (dsimp only; omega), by first | exact Nat.le_of_ble_eq_true rfl | omega | (dsimp only; omega)⟩) hS hFk_1 hJk_1 (fun r_2 u_3 H locs hpk_1 hSep hS hzk_1 => ?_)
    obtain rfl : r_2 = (bI (decide (0 < x9))) := hpk_1
    refine W.cs (cells' := 0) (slots' := 0) rfl rfl ?_
    have hSep : Sep G.1 clA (Fz F s.heap.size) [pts aT (.inl (G.2.1 0, 20, .inl fT)), pts aN (.inl (G.2.1 0, 89, .inl fN)), pts aL (.inl (G.2.1 0, 89, .inl fL)), pts aP (.inl (G.2.1 0, 89, .inl fP)), pts aD (.inl (G.2.1 0, 1246, .inl fD)), pts aK (.inl (G.2.1 0, 178, .inl fK)), pts aZ (.inl (G.2.1 2, 2, .inl fZ)), pts aG (.inl (G.2.1 0, 18, .inl fG)), pts aB (.inl (G.2.1 0, 5, .inl fB)), pts aS (.inl (G.2.1 0, 5, .inl fS)), pts mo (.inr (3, [.int (nI x9), .ref aT, .int (nI T.length), .ref aN, .ref aL, .ref aP, .ref aD, .int (nI hs.length), .ref aK, .ref aZ, .ref aG, .ref aB, .int (nI bl), .int bp, .ref aS, .int (nI tl)]))] H := hSep
    refine b_if_eq (tgt := 21) hx hb dX4_points_16 (by decide) (fun c16 => ?_) (fun c16 => ?_)
    · obtain ⟨hx0, hgd⟩ := hrf.resolve_left (fun h => h.1 (by have := of_decide_eq_false c16; omega))
      subst hx0
      obtain ⟨t9, ht91, ht92, rfl⟩ := inR_n (n := 1) hgd
      refine lv_aload_n hx hb dX4_points_21 rfl (lv_at hl 0 rfl) ?_
      refine lv_aload_n hx hb dX4_points_22 rfl (lv_at hl 0 rfl) ?_
      refine va_get (D := G.1) (ci := 3) (v := .ref aN) (C := RX4) (T := TX4) (N := 16) hx hb hts in_X4 hown hK (hSep.cel (k := 10) rfl) 0 rfl rfl 3 (by decide) (hts _ q1476) (fun _ h9 => h9) rfl dX4_points_23 ?_
      refine lv_iload_n hx hb dX4_points_26 rfl (lv_at hl 1 rfl) ?_
      obtain ⟨Fk_4, hFk_4, hPk_4, hJk_4⟩ := hSep.cut (Pc := [pts mo (.inr (3, [.int (nI 0), .ref aT, .int (nI T.length), .ref aN, .ref aL, .ref aP, .ref aD, .int (nI hs.length), .ref aK, .ref aZ, .ref aG, .ref aB, .int (nI bl), .int bp, .ref aS, .int (nI tl)])), pts aT (.inl (G.2.1 0, 20, .inl fT)), pts aS (.inl (G.2.1 0, 5, .inl fS)), pts aN (.inl (G.2.1 0, 89, .inl fN))]) (Pr := [pts aL (.inl (G.2.1 0, 89, .inl fL)), pts aP (.inl (G.2.1 0, 89, .inl fP)), pts aD (.inl (G.2.1 0, 1246, .inl fD)), pts aK (.inl (G.2.1 0, 178, .inl fK)), pts aZ (.inl (G.2.1 2, 2, .inl fZ)), pts aG (.inl (G.2.1 0, 18, .inl fG)), pts aB (.inl (G.2.1 0, 5, .inl fB))]) (fun q h => Fz.new (Nat.le_trans hS.1 h)) [10, 0, 9, 1] [2, 3, 4, 5, 6, 7, 8] rfl rfl rfl rfl (by decide)
      refine c_i (va_runV (As := [.ref aN, .int (nI t9)]) (rest := []) ⟨hx, hb, hml, hown, hts⟩ (m_X4_canTell l G Fk_4 H.size mo (nI 0) aT T.length aN aL aP aD hs.length aK aZ aG aB bl bp aS tl T fT aN fN g t9 fS (by first | assumption | omega) (by first | assumption | omega) (by first | assumption | omega) (by first | assumption | omega) (by first | assumption | omega) (by first | assumption | omega) (by omega)) (cwV 2 hts (lw_V q1633 q1635 qs26 q44 q1636) rfl rfl rfl (by decide +kernel) ⟨Nat.le_of_ble_eq_true rfl, Nat.le_of_ble_eq_true rfl⟩) (sp_preV hE hS hFk_4 hPk_4 trivial (sp_recv (ci := 3) hK (hSep.cel (k := 10) rfl) rfl)) rfl rfl hl.1 rfl (lv_room (Nat.le_of_ble_eq_true rfl)) dX4_points_27 ⟨by first | exact Nat.le_of_ble_eq_true rfl | omega | (dsimp only; omega), by first | exact Nat.le_of_ble_eq_true rfl | omega | (dsimp only; omega)⟩) hS hFk_4 hJk_4 (fun r_5 u_6 H locs hpk_4 hSep hS hzk_4 => ?_)
      obtain ⟨fS5, tl5⟩ := u_6
      obtain ⟨rfl, hpk_4⟩ : r_5 = (bI (gCanTell g T t9)) ∧ (gCanTell g T t9 = true → Pre fS5 (tW T) ∧ tl5 = (tW T).length) := hpk_4
      refine W.cs (cells' := 0) (slots' := 0) rfl rfl ?_
      have hSep : Sep G.1 clA (Fz F s.heap.size) [pts aL (.inl (G.2.1 0, 89, .inl fL)), pts aP (.inl (G.2.1 0, 89, .inl fP)), pts aD (.inl (G.2.1 0, 1246, .inl fD)), pts aK (.inl (G.2.1 0, 178, .inl fK)), pts aZ (.inl (G.2.1 2, 2, .inl fZ)), pts aG (.inl (G.2.1 0, 18, .inl fG)), pts aB (.inl (G.2.1 0, 5, .inl fB)), pts mo (.inr (3, [.int (nI 0), .ref aT, .int (nI T.length), .ref aN, .ref aL, .ref aP, .ref aD, .int (nI hs.length), .ref aK, .ref aZ, .ref aG, .ref aB, .int (nI bl), .int bp, .ref aS, .int (nI tl5)])), pts aT (.inl (G.2.1 0, 20, .inl fT)), pts aS (.inl (G.2.1 0, 5, .inl fS5)), pts aN (.inl (G.2.1 0, 89, .inl fN))] H := hSep
      have hR := hpk_4
      refine b_if_ne (tgt := 35) hx hb dX4_points_30 (by decide) (fun c30 => ?_) (fun c30 => ?_)
      · have hse : Sent (tW T) := rd_sent (of_decide_eq_true c30).2.1
        refine lv_iconst (v := (nI 0)) hx hb dX4_points_35 (by decide) ?_
        refine lv_istore_n (lv' := [(2, .int (nI 0)), (0, .ref mo), (1, .int (nI t9))]) hx hb dX4_points_36 rfl hl (by decide) rfl (fun ls hl => ?_)
        refine lv_iconst (v := (nI 0)) hx hb dX4_points_37 (by decide) ?_
        refine lv_istore_n (lv' := [(3, .int (nI 0)), (2, .int (nI 0)), (0, .ref mo), (1, .int (nI t9))]) hx hb dX4_points_38 rfl hl (by decide) rfl (fun ls hl => ?_)
        have L39 : ∀ (fu : Nat) (k : Nat) , 3 - k < fu → (k ≤ 3) → ∀ (H : Heap) (locs : List Loc) (ls : Array Slot), Sep G.1 clA (Fz F s.heap.size) [pts aL (.inl (G.2.1 0, 89, .inl fL)), pts aP (.inl (G.2.1 0, 89, .inl fP)), pts aD (.inl (G.2.1 0, 1246, .inl fD)), pts aK (.inl (G.2.1 0, 178, .inl fK)), pts aZ (.inl (G.2.1 2, 2, .inl fZ)), pts aG (.inl (G.2.1 0, 18, .inl fG)), pts aB (.inl (G.2.1 0, 5, .inl fB)), pts mo (.inr (3, [.int (nI 0), .ref aT, .int (nI T.length), .ref aN, .ref aL, .ref aP, .ref aD, .int (nI hs.length), .ref aK, .ref aZ, .ref aG, .ref aB, .int (nI bl), .int bp, .ref aS, .int (nI tl5)])), pts aT (.inl (G.2.1 0, 20, .inl fT)), pts aS (.inl (G.2.1 0, 5, .inl fS5)), pts aN (.inl (G.2.1 0, 89, .inl fN))] H → va_S (Fz F s.heap.size) s.heap H locs → lv_has ls 4 [(3, .int (nI k)), (2, .int (nI (gPts g (tW T) k))), (0, .ref mo), (1, .int (nI t9))] → W p l e ({ frames := 4, cells := 0, slots := 0, locals := 109 } : Room) s m args below meth c H locs (0) (0) QQ (F0 m 39 ls []) := by
          intro fu
          induction fu with
          | zero => intro k hm; exact absurd hm (Nat.not_lt_zero _)
          | succ fu ih39 =>
            intro k hm39 hp39_0 H locs ls hSep hS hl
            refine lv_iload_n hx hb dX4_points_39 rfl (lv_at hl 0 rfl) ?_
            refine lv_iconst (v := (nI 3)) hx hb dX4_points_40 (by decide) ?_
            refine n_icmp_ge (tgt := 77) hx hb (by omega) (by omega) dX4_points_41 (by decide) (fun c41 => ?_) (fun c41 => ?_)
            · obtain rfl : k = 3 := by omega
              refine lv_iload_n hx hb dX4_points_77 rfl (lv_at hl 1 rfl) ?_
              have hop : oPoints (g, hs, kp, T) (nI t9) = (0, nI (gPts g (tW T) 3), g, hs, kp, T) := by unfold oPoints; rw [if_neg (by rw [hgd]; decide), nI_toInt ht92, Int.toNat_natCast]; exact congrArg (fun v => (0, v, _)) (if_pos c30)
              rw [hQ]
              exact r_i (r := (nI (gPts g (tW T) 3))) (u := ()) hx hb hr (by rw [hop]; exact fun _ => rfl) (by rw [hop]; exact mod_close (hSep.pick [7, 8, 10, 0, 1, 2, 3, 4, 5, 6, 9] rfl rfl) rfl rfl rfl hC) hS (by first | exact Nat.le_of_ble_eq_true rfl | omega | (dsimp only; omega)) (by first | exact Nat.le_of_ble_eq_true rfl | omega | (dsimp only; omega)) dX4_points_78 hlocks
            · have L69 : ∀ (y6 : Nat) , (y6 = if gThere g k then hearN g k (tW T) else 0) → ∀ (H : Heap) (locs : List Loc) (ls : Array Slot), Sep G.1 clA (Fz F s.heap.size) [pts aL (.inl (G.2.1 0, 89, .inl fL)), pts aP (.inl (G.2.1 0, 89, .inl fP)), pts aD (.inl (G.2.1 0, 1246, .inl fD)), pts aK (.inl (G.2.1 0, 178, .inl fK)), pts aZ (.inl (G.2.1 2, 2, .inl fZ)), pts aG (.inl (G.2.1 0, 18, .inl fG)), pts aB (.inl (G.2.1 0, 5, .inl fB)), pts mo (.inr (3, [.int (nI 0), .ref aT, .int (nI T.length), .ref aN, .ref aL, .ref aP, .ref aD, .int (nI hs.length), .ref aK, .ref aZ, .ref aG, .ref aB, .int (nI bl), .int bp, .ref aS, .int (nI tl5)])), pts aT (.inl (G.2.1 0, 20, .inl fT)), pts aS (.inl (G.2.1 0, 5, .inl fS5)), pts aN (.inl (G.2.1 0, 89, .inl fN))] H → va_S (Fz F s.heap.size) s.heap H locs → lv_has ls 4 [(3, .int (nI k)), (2, .int (nI (gPts g (tW T) k))), (0, .ref mo), (1, .int (nI t9))] → W p l e ({ frames := 4, cells := 0, slots := 0, locals := 109 } : Room) s m args below meth c H locs (0) (0) QQ (F0 m 69 ls [.int (nI y6), .int (nI (gPts g (tW T) k))]) := by
                intro y6 hp69_0 H locs ls hSep hS hl
                refine n_iadd hx hb dX4_points_69 ?_
                refine n_eq (y := (nI (gPts g (tW T) (k + 1)))) (by rw [hp69_0]; rfl) ?_
                refine lv_istore_n (lv' := [(2, .int (nI (gPts g (tW T) (k + 1)))), (3, .int (nI k)), (0, .ref mo), (1, .int (nI t9))]) hx hb dX4_points_70 rfl hl (by decide) rfl (fun ls hl => ?_)
                refine lv_iinc (v := (nI (k + 1))) (lv' := [(3, .int (nI (k + 1))), (2, .int (nI (gPts g (tW T) (k + 1)))), (0, .ref mo), (1, .int (nI t9))]) hx hb dX4_points_71 hl (k := 1) rfl (nI_inc k 1) (by decide) rfl (fun ls hl => ?_)
                refine lv_goto (tgt := 39) hx hb dX4_points_74 (by decide) ?_
                exact ih39 (k + 1) (by omega) (by omega) _ _ _ hSep hS (lv_sub hl [0, 1, 2, 3] rfl)
              refine lv_iload_n hx hb dX4_points_44 rfl (lv_at hl 1 rfl) ?_
              refine lv_aload_n hx hb dX4_points_45 rfl (lv_at hl 2 rfl) ?_
              refine va_get (D := G.1) (ci := 3) (v := .ref aN) (C := RX4) (T := TX4) (N := 16) hx hb hts in_X4 hown hK (hSep.cel (k := 7) rfl) 0 rfl rfl 3 (by decide) (hts _ q1476) (fun _ h9 => h9) rfl dX4_points_46 ?_
              refine lv_iload_n hx hb dX4_points_49 rfl (lv_at hl 0 rfl) ?_
              have hFk_7 : ∀ q, Fz (fun _ => False) H.size q → (Fz F s.heap.size) q := fun q h => by rcases h with h | h; exact h.elim; exact Fz.new (Nat.le_trans hS.1 h)
              have hPk_7 : Sep G.1 clA (Fz (fun _ => False) H.size) [] H := sp_nil
              have hJk_7 := sp_nilJ (F := (fun _ => False)) hSep (fun _ => id) hFk_7
              refine c_i (va_runS (As := [.ref aN, .int (nI k)]) (rest := [.int (nI (gPts g (tW T) k))]) ⟨hx, hb, hml, hown, hts⟩ (m_X4_isThere l G H.size aN fN g k (by first | assumption | omega) (by first | assumption | omega)) (va_cwS 2 hts (lw_S q1641 q1642 q44 q1643) rfl rfl rfl (by decide +kernel) ⟨Nat.le_of_ble_eq_true rfl, Nat.le_of_ble_eq_true rfl⟩) (sp_preS hE hS hFk_7 hPk_7 (hSep.cel (k := 10) rfl)) rfl rfl hl.1 rfl (lv_room (Nat.le_of_ble_eq_true rfl)) dX4_points_50 ⟨by first | exact Nat.le_of_ble_eq_true rfl | omega | (dsimp only; omega), by first | exact Nat.le_of_ble_eq_true rfl | omega | (dsimp only; omega)⟩) hS hFk_7 hJk_7 (fun r_8 u_9 H locs hpk_7 hSep hS hzk_7 => ?_)
              obtain rfl : r_8 = (bI (gThere g k)) := hpk_7
              refine W.cs (cells' := 0) (slots' := 0) rfl rfl ?_
              have hSep : Sep G.1 clA (Fz F s.heap.size) [pts aL (.inl (G.2.1 0, 89, .inl fL)), pts aP (.inl (G.2.1 0, 89, .inl fP)), pts aD (.inl (G.2.1 0, 1246, .inl fD)), pts aK (.inl (G.2.1 0, 178, .inl fK)), pts aZ (.inl (G.2.1 2, 2, .inl fZ)), pts aG (.inl (G.2.1 0, 18, .inl fG)), pts aB (.inl (G.2.1 0, 5, .inl fB)), pts mo (.inr (3, [.int (nI 0), .ref aT, .int (nI T.length), .ref aN, .ref aL, .ref aP, .ref aD, .int (nI hs.length), .ref aK, .ref aZ, .ref aG, .ref aB, .int (nI bl), .int bp, .ref aS, .int (nI tl5)])), pts aT (.inl (G.2.1 0, 20, .inl fT)), pts aS (.inl (G.2.1 0, 5, .inl fS5)), pts aN (.inl (G.2.1 0, 89, .inl fN))] H := hSep
              refine b_if_eq (tgt := 68) hx hb dX4_points_53 (by decide) (fun c53 => ?_) (fun c53 => ?_)
              · refine lv_iconst (v := (nI 0)) hx hb dX4_points_68 (by decide) ?_
                exact L69 0 (by rw [if_neg (by rw [c53]; decide)]) _ _ _ hSep hS (lv_sub hl [0, 1, 2, 3] rfl)
              · refine lv_aload_n hx hb dX4_points_56 rfl (lv_at hl 2 rfl) ?_
                refine lv_aload_n hx hb dX4_points_57 rfl (lv_at hl 2 rfl) ?_
                refine va_get (D := G.1) (ci := 3) (v := .ref aN) (C := RX4) (T := TX4) (N := 16) hx hb hts in_X4 hown hK (hSep.cel (k := 7) rfl) 0 rfl rfl 3 (by decide) (hts _ q1476) (fun _ h9 => h9) rfl dX4_points_58 ?_
                refine lv_iload_n hx hb dX4_points_61 rfl (lv_at hl 0 rfl) ?_
                have hFk_10 : ∀ q, Fz (fun _ => False) H.size q → (Fz F s.heap.size) q := fun q h => by rcases h with h | h; exact h.elim; exact Fz.new (Nat.le_trans hS.1 h)
                have hPk_10 : Sep G.1 clA (Fz (fun _ => False) H.size) [] H := sp_nil
                have hJk_10 := sp_nilJ (F := (fun _ => False)) hSep (fun _ => id) hFk_10
                refine c_i (va_runV (As := [.ref aN, .int (nI k)]) (rest := [.int (nI (gPts g (tW T) k))]) ⟨hx, hb, hml, hown, hts⟩ (m_X4_hear l G H.size mo (nI 0) aT T.length aN aL aP aD hs.length aK aZ aG aB bl bp aS tl5 aN fN g k fS5 (tW T) (he) (by first | assumption | omega) (by first | assumption | omega) ((hR c30).1) ((hR c30).2) ((Sent_len hse).2) (hse.2.2)) (cwV 2 hts (lw_V q1644 q1646 qs28 q44 q1647) rfl rfl rfl (by decide +kernel) ⟨Nat.le_of_ble_eq_true rfl, Nat.le_of_ble_eq_true rfl⟩) (sp_preV hE hS hFk_10 hPk_10 (va_P.app (hSep.cel (k := 7) rfl) (va_P.app (hSep.cel (k := 9) rfl) (hSep.cel (k := 10) rfl))) (sp_recv (ci := 3) hK (hSep.cel (k := 7) rfl) rfl)) rfl rfl hl.1 rfl (lv_room (Nat.le_of_ble_eq_true rfl)) dX4_points_62 ⟨by first | exact Nat.le_of_ble_eq_true rfl | omega | (dsimp only; omega), by first | exact Nat.le_of_ble_eq_true rfl | omega | (dsimp only; omega)⟩) hS hFk_10 hJk_10 (fun r_11 u_12 H locs hpk_10 hSep hS hzk_10 => ?_)
                obtain rfl : r_11 = (nI (hearN g k (tW T))) := hpk_10
                refine W.cs (cells' := 0) (slots' := 0) rfl rfl ?_
                have hSep : Sep G.1 clA (Fz F s.heap.size) [pts aL (.inl (G.2.1 0, 89, .inl fL)), pts aP (.inl (G.2.1 0, 89, .inl fP)), pts aD (.inl (G.2.1 0, 1246, .inl fD)), pts aK (.inl (G.2.1 0, 178, .inl fK)), pts aZ (.inl (G.2.1 2, 2, .inl fZ)), pts aG (.inl (G.2.1 0, 18, .inl fG)), pts aB (.inl (G.2.1 0, 5, .inl fB)), pts mo (.inr (3, [.int (nI 0), .ref aT, .int (nI T.length), .ref aN, .ref aL, .ref aP, .ref aD, .int (nI hs.length), .ref aK, .ref aZ, .ref aG, .ref aB, .int (nI bl), .int bp, .ref aS, .int (nI tl5)])), pts aT (.inl (G.2.1 0, 20, .inl fT)), pts aS (.inl (G.2.1 0, 5, .inl fS5)), pts aN (.inl (G.2.1 0, 89, .inl fN))] H := hSep
                refine lv_goto (tgt := 69) hx hb dX4_points_65 (by decide) ?_
                exact L69 (hearN g k (tW T)) (by rw [if_pos c53]) _ _ _ hSep hS (lv_sub hl [0, 1, 2, 3] rfl)
        exact L39 (3 - 0 + 1) 0 (Nat.lt_succ_self _) (by omega) _ _ _ hSep hS (lv_sub hl [0, 1, 2, 3] rfl)
      · refine lv_iconst (v := (-1)) hx hb dX4_points_33 (by decide) ?_
        have hop : oPoints (g, hs, kp, T) (nI t9) = (0, -1, g, hs, kp, T) := by unfold oPoints; rw [if_neg (by rw [hgd]; decide), nI_toInt ht92, Int.toNat_natCast]; exact congrArg (fun v => (0, v, _)) (if_neg (by rw [c30]; decide))
        rw [hQ]
        exact r_i (r := (-1)) (u := ()) hx hb hr (by rw [hop]; exact fun _ => rfl) (by rw [hop]; exact mod_close (hSep.pick [7, 8, 10, 0, 1, 2, 3, 4, 5, 6, 9] rfl rfl) rfl rfl rfl hC) hS (by first | exact Nat.le_of_ble_eq_true rfl | omega | (dsimp only; omega)) (by first | exact Nat.le_of_ble_eq_true rfl | omega | (dsimp only; omega)) dX4_points_34 hlocks
    · obtain ⟨hx1, hop⟩ := hrf.resolve_right (fun h => absurd (of_decide_eq_true c16) (by rw [h.1]; decide))
      refine lv_iconst (v := (nI 0)) hx hb dX4_points_19 (by decide) ?_
      rw [hQ]
      exact r_i (r := (nI 0)) (u := ()) hx hb hr (by rw [hop]; exact fun h => absurd h hx1) (by rw [hop]; exact mod_close (hSep.pick [10, 0, 1, 2, 3, 4, 5, 6, 7, 8, 9] rfl rfl) rfl rfl rfl hC) hS (by first | exact Nat.le_of_ble_eq_true rfl | omega | (dsimp only; omega)) (by first | exact Nat.le_of_ble_eq_true rfl | omega | (dsimp only; omega)) dX4_points_20 hlocks
  refine lv_aload_n hx hb dX4_points_0 rfl (lv_at hl 0 rfl) ?_
  refine lv_iload_n hx hb dX4_points_1 rfl (lv_at hl 1 rfl) ?_
  have hFk_13 : ∀ q, Fz (fun _ => False) s.heap.size q → (Fz F s.heap.size) q := fun q h => by rcases h with h | h; exact h.elim; exact Fz.new (Nat.le_trans hS.1 h)
  have hPk_13 : Sep G.1 clA (Fz (fun _ => False) s.heap.size) [] s.heap := sp_nil
  have hJk_13 := sp_nilJ (F := (fun _ => False)) hSep (fun _ => id) hFk_13
  refine c_i (va_runS (As := [.int t]) (rest := [.ref mo]) ⟨hx, hb, hml, hown, hts⟩ (m_X4_isTeller l G s.heap.size t ) (va_cwS 1 hts (lw_S q1577 q1578 q44 q1579) rfl rfl rfl (by decide +kernel) ⟨Nat.le_of_ble_eq_true rfl, Nat.le_of_ble_eq_true rfl⟩) (sp_preS hE hS hFk_13 hPk_13 trivial) rfl rfl hl.1 rfl (lv_room (Nat.le_of_ble_eq_true rfl)) dX4_points_2 ⟨by first | exact Nat.le_of_ble_eq_true rfl | omega | (dsimp only; omega), by first | exact Nat.le_of_ble_eq_true rfl | omega | (dsimp only; omega)⟩) hS hFk_13 hJk_13 (fun r_14 u_15 H locs hpk_13 hSep hS hzk_13 => ?_)
  obtain rfl : r_14 = (bI (inR t.toInt 0 1)) := hpk_13
  refine W.cs (cells' := 0) (slots' := 0) rfl rfl ?_
  have hSep : Sep G.1 clA (Fz F s.heap.size) [pts mo (.inr (3, [.int rf, .ref aT, .int (nI T.length), .ref aN, .ref aL, .ref aP, .ref aD, .int (nI hs.length), .ref aK, .ref aZ, .ref aG, .ref aB, .int (nI bl), .int bp, .ref aS, .int (nI tl)])), pts aT (.inl (G.2.1 0, 20, .inl fT)), pts aN (.inl (G.2.1 0, 89, .inl fN)), pts aL (.inl (G.2.1 0, 89, .inl fL)), pts aP (.inl (G.2.1 0, 89, .inl fP)), pts aD (.inl (G.2.1 0, 1246, .inl fD)), pts aK (.inl (G.2.1 0, 178, .inl fK)), pts aZ (.inl (G.2.1 2, 2, .inl fZ)), pts aG (.inl (G.2.1 0, 18, .inl fG)), pts aB (.inl (G.2.1 0, 5, .inl fB)), pts aS (.inl (G.2.1 0, 5, .inl fS))] H := hSep
  refine b_if_eq (tgt := 12) hx hb dX4_points_5 (by decide) (fun c5 => ?_) (fun c5 => ?_)
  · refine lv_iconst (v := (nI 1)) hx hb dX4_points_12 (by decide) ?_
    exact L13 1 (Or.inl ⟨by decide, by unfold oPoints; rw [if_pos c5]⟩) (by decide) _ _ _ hSep hS (lv_sub hl [0, 1] rfl)
  · refine lv_iconst (v := (nI 0)) hx hb dX4_points_8 (by decide) ?_
    refine lv_goto (tgt := 13) hx hb dX4_points_9 (by decide) ?_
    exact L13 0 (Or.inr ⟨rfl, c5⟩) (by decide) _ _ _ hSep hS (lv_sub hl [0, 1] rfl)
