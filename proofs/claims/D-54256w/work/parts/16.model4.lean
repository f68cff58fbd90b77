set_option maxRecDepth 100000
set_option maxHeartbeats 600000 in
set_option maxRecDepth 100000 in
theorem m_X4_findBest (l : Launch) (G : EVT) (F : Nat → Prop) (sz : Nat) (mo : Nat) (fR : Int32) (aT : Nat) (zs : Nat) (aN : Nat) (aL : Nat) (aP : Nat) (aD : Nat) (ac : Nat) (aK : Nat) (aZ : Nat) (aG : Nat) (aB : Nat) (bl : Nat) (bp : Int32) (aS : Nat) (tl : Nat) (bn : Nat → Bool) (gv : Nat → Nat) (fS : Nat → Int32) (fB : Nat → Int32) (fG : Nat → Int32) (hG : ∀ w, w < 18 → fG w = gI bn gv w) (hv : ∀ w, gv w ≤ 3) : Met l yX4_findBest (ws_ yX4_findBest cX4_findBest 6 (some .int)) ({ frames := 2, cells := 0, slots := 0, locals := 51 } : Room) (SPc G F sz [.ref mo] [pts mo (.inr (3, [.int fR, .ref aT, .int (nI zs), .ref aN, .ref aL, .ref aP, .ref aD, .int (nI ac), .ref aK, .ref aZ, .ref aG, .ref aB, .int (nI bl), .int bp, .ref aS, .int (nI tl)])), pts aS (.inl (G.2.1 0, 5, .inl fS)), pts aG (.inl (G.2.1 0, 18, .inl fG)), pts aB (.inl (G.2.1 0, 5, .inl fB))] (fun _ => True)) (SQi G F sz (fun (r : Int32) (u : Nat × (List Nat) × (Nat → Int32) × (Nat → Int32) × Nat) => r = (ptI u.1) ∧ BestOn (smS gv) (okS bn) u.1 u.2.1 ∧ Pre u.2.2.2.1 u.2.1) (fun (u : Nat × (List Nat) × (Nat → Int32) × (Nat → Int32) × Nat) => [pts mo (.inr (3, [.int fR, .ref aT, .int (nI zs), .ref aN, .ref aL, .ref aP, .ref aD, .int (nI ac), .ref aK, .ref aZ, .ref aG, .ref aB, .int (nI u.2.1.length), .int (ptI u.1), .ref aS, .int (nI u.2.2.2.2)])), pts aS (.inl (G.2.1 0, 5, .inl u.2.2.1)), pts aG (.inl (G.2.1 0, 18, .inl fG)), pts aB (.inl (G.2.1 0, 5, .inl u.2.2.2.1))])) (0) (0) (Fz F sz) := by
  refine sp_of RX4 (by decide) rfl (Nat.le_of_ble_eq_true rfl) ?_
  intro p e s m args below meth c ls QQ hx hb hr hts hown hlocks hml hnm hsz hSep hΦ hE hS hl hQ
  subst hsz
  have hK := hE.1
  have hl : lv_has ls 6 [(0, .ref mo)] := hl
  refine lv_aload_n hx hb dX4_findBest_0 rfl (lv_at hl 0 rfl) ?_
  refine lv_iconst (v := (-1)) hx hb dX4_findBest_1 (by decide) ?_
  refine s_put (ci := 3) (v := .int (-1)) (ty := .int) (C := RX4) (T := TX4) (N := 16) hx hb hts in_X4 tyX4 tyX4_ok nmX4 hown hK hSep hS 0 rfl rfl 13 (by decide) (hts _ q1486) (fun _ h9 => h9) rfl (by decide +kernel) rfl rfl (Nat.le_of_ble_eq_true rfl) dX4_findBest_2 (fun H locs hSep hS => ?_)
  have hSep : Sep G.1 clA (Fz F s.heap.size) [pts mo (.inr (3, [.int fR, .ref aT, .int (nI zs), .ref aN, .ref aL, .ref aP, .ref aD, .int (nI ac), .ref aK, .ref aZ, .ref aG, .ref aB, .int (nI bl), .int (-1), .ref aS, .int (nI tl)])), pts aS (.inl (G.2.1 0, 5, .inl fS)), pts aG (.inl (G.2.1 0, 18, .inl fG)), pts aB (.inl (G.2.1 0, 5, .inl fB))] H := hSep
  refine lv_aload_n hx hb dX4_findBest_5 rfl (lv_at hl 0 rfl) ?_
  refine lv_iconst (v := (nI 0)) hx hb dX4_findBest_6 (by decide) ?_
  refine s_put (ci := 3) (v := .int (nI 0)) (ty := .int) (C := RX4) (T := TX4) (N := 16) hx hb hts in_X4 tyX4 tyX4_ok nmX4 hown hK hSep hS 0 rfl rfl 12 (by decide) (hts _ q1485) (fun _ h9 => h9) rfl (by decide +kernel) rfl rfl (Nat.le_of_ble_eq_true rfl) dX4_findBest_7 (fun H locs hSep hS => ?_)
  have hSep : Sep G.1 clA (Fz F s.heap.size) [pts mo (.inr (3, [.int fR, .ref aT, .int (nI zs), .ref aN, .ref aL, .ref aP, .ref aD, .int (nI ac), .ref aK, .ref aZ, .ref aG, .ref aB, .int (nI 0), .int (-1), .ref aS, .int (nI tl)])), pts aS (.inl (G.2.1 0, 5, .inl fS)), pts aG (.inl (G.2.1 0, 18, .inl fG)), pts aB (.inl (G.2.1 0, 5, .inl fB))] H := hSep
  refine lv_iconst (v := (-1)) hx hb dX4_findBest_10 (by decide) ?_
  refine lv_istore_n (lv' := [(1, .int (-1)), (0, .ref mo)]) hx hb dX4_findBest_11 rfl hl (by decide) rfl (fun ls hl => ?_)
  have L12 : ∀ (fu : Nat) (i : Nat) (P1 : Nat) (b1 : List Nat) (t1 : Nat) (fS1 : Nat → Int32) (fB1 : Nat → Int32) , 7 - i < fu → (i ≤ 7) → (BestOn (smS gv) (S1 bn i) P1 b1) → (Pre fB1 b1) → ∀ (H : Heap) (locs : List Loc) (ls : Array Slot), Sep G.1 clA (Fz F s.heap.size) [pts mo (.inr (3, [.int fR, .ref aT, .int (nI zs), .ref aN, .ref aL, .ref aP, .ref aD, .int (nI ac), .ref aK, .ref aZ, .ref aG, .ref aB, .int (nI b1.length), .int (ptI P1), .ref aS, .int (nI t1)])), pts aS (.inl (G.2.1 0, 5, .inl fS1)), pts aG (.inl (G.2.1 0, 18, .inl fG)), pts aB (.inl (G.2.1 0, 5, .inl fB1))] H → va_S (Fz F s.heap.size) s.heap H locs → lv_has ls 6 [(1, .int (qI i)), (0, .ref mo)] → W p l e ({ frames := 2, cells := 0, slots := 0, locals := 51 } : Room) s m args below meth c H locs (0) (0) QQ (F0 m 12 ls []) := by
    intro fu
    induction fu with
    | zero => intro i P1 b1 t1 fS1 fB1 hm; exact absurd hm (Nat.not_lt_zero _)
    | succ fu ih12 =>
      intro i P1 b1 t1 fS1 fB1 hm12 hp12_0 hp12_1 hp12_2 H locs ls hSep hS hl
      refine lv_iload_n hx hb dX4_findBest_12 rfl (lv_at hl 0 rfl) ?_
      refine lv_bipush (v := (nI 18)) hx hb dX4_findBest_13 (by decide) ?_
      refine lv_icmp_ge (tgt := 104) hx hb dX4_findBest_15 (by decide) (fun c15 => ?_) (fun c15 => ?_)
      · rw [qI_ge (by omega)] at c15
        obtain rfl : i = 7 := by omega
        refine lv_aload_n hx hb dX4_findBest_104 rfl (lv_at hl 1 rfl) ?_
        refine va_get (D := G.1) (ci := 3) (v := .int (ptI P1)) (C := RX4) (T := TX4) (N := 16) hx hb hts in_X4 hown hK (hSep.cel (k := 0) rfl) 0 rfl rfl 13 (by decide) (hts _ q1486) (fun _ h9 => h9) rfl dX4_findBest_105 ?_
        rw [hQ]
        exact r_i (r := (ptI P1)) (u := (P1, b1, fS1, fB1, t1)) hx hb hr (⟨rfl, hp12_1.congr S1_7, hp12_2⟩) hSep hS (by first | exact Nat.le_of_ble_eq_true rfl | omega | (dsimp only; omega)) (by first | exact Nat.le_of_ble_eq_true rfl | omega | (dsimp only; omega)) dX4_findBest_108 hlocks
      · rw [qI_ge (by omega)] at c15
        refine lv_iconst (v := (nI 0)) hx hb dX4_findBest_18 (by decide) ?_
        refine lv_istore_n (lv' := [(2, .int (nI 0)), (1, .int (qI i)), (0, .ref mo)]) hx hb dX4_findBest_19 rfl hl (by decide) rfl (fun ls hl => ?_)
        have L20 : ∀ (fu : Nat) (j : Nat) (P1 : Nat) (b1 : List Nat) (t1 : Nat) (fS1 : Nat → Int32) (fB1 : Nat → Int32) , 6 - j < fu → (j ≤ 6) → (BestOn (smS gv) (S2 bn i j) P1 b1) → (Pre fB1 b1) → ∀ (H : Heap) (locs : List Loc) (ls : Array Slot), Sep G.1 clA (Fz F s.heap.size) [pts mo (.inr (3, [.int fR, .ref aT, .int (nI zs), .ref aN, .ref aL, .ref aP, .ref aD, .int (nI ac), .ref aK, .ref aZ, .ref aG, .ref aB, .int (nI b1.length), .int (ptI P1), .ref aS, .int (nI t1)])), pts aS (.inl (G.2.1 0, 5, .inl fS1)), pts aG (.inl (G.2.1 0, 18, .inl fG)), pts aB (.inl (G.2.1 0, 5, .inl fB1))] H → va_S (Fz F s.heap.size) s.heap H locs → lv_has ls 6 [(2, .int (nI (3 * j))), (1, .int (qI i)), (0, .ref mo)] → W p l e ({ frames := 2, cells := 0, slots := 0, locals := 51 } : Room) s m args below meth c H locs (0) (0) QQ (F0 m 20 ls []) := by
          intro fu
          induction fu with
          | zero => intro j P1 b1 t1 fS1 fB1 hm; exact absurd hm (Nat.not_lt_zero _)
          | succ fu ih20 =>
            intro j P1 b1 t1 fS1 fB1 hm20 hp20_0 hp20_1 hp20_2 H locs ls hSep hS hl
            refine lv_iload_n hx hb dX4_findBest_20 rfl (lv_at hl 0 rfl) ?_
            refine lv_bipush (v := (nI 18)) hx hb dX4_findBest_21 (by decide) ?_
            refine n_icmp_ge (tgt := 98) hx hb (by omega) (by omega) dX4_findBest_23 (by decide) (fun c23 => ?_) (fun c23 => ?_)
            · obtain rfl : j = 6 := by omega
              refine lv_iinc (v := (qI (i + 1))) (lv' := [(1, .int (qI (i + 1))), (2, .int (nI (3 * 6))), (0, .ref mo)]) hx hb dX4_findBest_98 hl (k := 1) rfl (qI_s (by omega)) (by decide) rfl (fun ls hl => ?_)
              refine lv_goto (tgt := 12) hx hb dX4_findBest_101 (by decide) ?_
              exact ih12 (i + 1) P1 b1 t1 fS1 fB1 (by omega) (by omega) (hp20_1.congr (S2_6 i)) (hp20_2) _ _ _ hSep hS (lv_sub hl [0, 2] rfl)
            · refine lv_iconst (v := (nI 1)) hx hb dX4_findBest_26 (by decide) ?_
              refine lv_istore_n (lv' := [(3, .int (nI 1)), (2, .int (nI (3 * j))), (1, .int (qI i)), (0, .ref mo)]) hx hb dX4_findBest_27 rfl hl (by decide) rfl (fun ls hl => ?_)
              have L28 : ∀ (fu : Nat) (k : Nat) (P1 : Nat) (b1 : List Nat) (t1 : Nat) (fS1 : Nat → Int32) (fB1 : Nat → Int32) , 6 - k < fu → (k ≤ 6) → (BestOn (smS gv) (S3 bn i j k) P1 b1) → (Pre fB1 b1) → ∀ (H : Heap) (locs : List Loc) (ls : Array Slot), Sep G.1 clA (Fz F s.heap.size) [pts mo (.inr (3, [.int fR, .ref aT, .int (nI zs), .ref aN, .ref aL, .ref aP, .ref aD, .int (nI ac), .ref aK, .ref aZ, .ref aG, .ref aB, .int (nI b1.length), .int (ptI P1), .ref aS, .int (nI t1)])), pts aS (.inl (G.2.1 0, 5, .inl fS1)), pts aG (.inl (G.2.1 0, 18, .inl fG)), pts aB (.inl (G.2.1 0, 5, .inl fB1))] H → va_S (Fz F s.heap.size) s.heap H locs → lv_has ls 6 [(3, .int (nI (3 * k + 1))), (2, .int (nI (3 * j))), (1, .int (qI i)), (0, .ref mo)] → W p l e ({ frames := 2, cells := 0, slots := 0, locals := 51 } : Room) s m args below meth c H locs (0) (0) QQ (F0 m 28 ls []) := by
                intro fu
                induction fu with
                | zero => intro k P1 b1 t1 fS1 fB1 hm; exact absurd hm (Nat.not_lt_zero _)
                | succ fu ih28 =>
                  intro k P1 b1 t1 fS1 fB1 hm28 hp28_0 hp28_1 hp28_2 H locs ls hSep hS hl
                  refine lv_iload_n hx hb dX4_findBest_28 rfl (lv_at hl 0 rfl) ?_
                  refine lv_bipush (v := (nI 18)) hx hb dX4_findBest_29 (by decide) ?_
                  refine n_icmp_ge (tgt := 92) hx hb (by omega) (by omega) dX4_findBest_31 (by decide) (fun c31 => ?_) (fun c31 => ?_)
                  · obtain rfl : k = 6 := by omega
                    refine lv_iinc (v := (nI (3 * (j + 1)))) (lv' := [(2, .int (nI (3 * (j + 1)))), (3, .int (nI (3 * 6 + 1))), (1, .int (qI i)), (0, .ref mo)]) hx hb dX4_findBest_92 hl (k := 1) rfl (by rw [Nat.mul_succ]; exact nI_inc _ _) (by decide) rfl (fun ls hl => ?_)
                    refine lv_goto (tgt := 20) hx hb dX4_findBest_95 (by decide) ?_
                    exact ih20 (j + 1) P1 b1 t1 fS1 fB1 (by omega) (by omega) (hp28_1.congr (S3_6 i j)) (hp28_2) _ _ _ hSep hS (lv_sub hl [0, 2, 3] rfl)
                  · refine lv_aload_n hx hb dX4_findBest_34 rfl (lv_at hl 3 rfl) ?_
                    refine lv_iload_n hx hb dX4_findBest_35 rfl (lv_at hl 2 rfl) ?_
                    refine lv_iload_n hx hb dX4_findBest_36 rfl (lv_at hl 1 rfl) ?_
                    refine lv_iload_n hx hb dX4_findBest_37 rfl (lv_at hl 0 rfl) ?_
                    refine lv_iconst (v := (-1)) hx hb dX4_findBest_38 (by decide) ?_
                    refine lv_iconst (v := (-1)) hx hb dX4_findBest_39 (by decide) ?_
                    obtain ⟨Fk_1, hFk_1, hPk_1, hJk_1⟩ := hSep.cut (Pc := [pts mo (.inr (3, [.int fR, .ref aT, .int (nI zs), .ref aN, .ref aL, .ref aP, .ref aD, .int (nI ac), .ref aK, .ref aZ, .ref aG, .ref aB, .int (nI b1.length), .int (ptI P1), .ref aS, .int (nI t1)])), pts aS (.inl (G.2.1 0, 5, .inl fS1)), pts aG (.inl (G.2.1 0, 18, .inl fG)), pts aB (.inl (G.2.1 0, 5, .inl fB1))]) (Pr := []) (fun q h => Fz.new (Nat.le_trans hS.1 h)) [0, 1, 2, 3] [] rfl rfl rfl rfl (by decide)
                    refine c_v (va_runV (As := [.int (qI i), .int (nI (3 * j)), .int (nI (3 * k + 1)), .int (-1), .int (-1)]) (rest := []) ⟨hx, hb, hml, hown, hts⟩ (m_X4_tryAll l G Fk_1 H.size mo fR aT zs aN aL aP aD ac aK aZ aG aB bl bp aS t1 (qO i) (3 * j) (3 * k + 1) none none bn gv (S3 bn i j k) P1 b1 fS1 fB1 fG (qO_ok (by omega)) (⟨⟨by omega, by omega⟩, ⟨by omega, by omega⟩, by simp, by simp, by simp⟩) (hG) (hv) (hp28_1) (fun s h => S3_ok h) (hp28_2)) (cwV 5 hts (lw_V q1694 q1696 qs33 q44 q1697) rfl rfl rfl (by decide +kernel) ⟨Nat.le_of_ble_eq_true rfl, Nat.le_of_ble_eq_true rfl⟩) (sp_preV hE hS hFk_1 hPk_1 trivial (sp_recv (ci := 3) hK (hSep.cel (k := 0) rfl) rfl)) rfl rfl hl.1 rfl (lv_room (Nat.le_of_ble_eq_true rfl)) dX4_findBest_40 ⟨by first | exact Nat.le_of_ble_eq_true rfl | omega | (dsimp only; omega), by first | exact Nat.le_of_ble_eq_true rfl | omega | (dsimp only; omega)⟩) hS hFk_1 hJk_1 (fun u_3 H locs hpk_1 hSep hS hzk_1 => ?_)
                    obtain ⟨P2_4, b2_5, fS4_6, fB4_7, tl4_8⟩ := u_3
                    have hpk_1 : BestOn (smS gv) (fun s => (S3 bn i j k) s ∨ (s = (five (qO i) (3 * j) (3 * k + 1) none none) ∧ okS bn s)) P2_4 b2_5 ∧ Pre fB4_7 b2_5 := hpk_1
                    refine W.cs (cells' := 0) (slots' := 0) rfl rfl ?_
                    have hSep : Sep G.1 clA (Fz F s.heap.size) [pts mo (.inr (3, [.int fR, .ref aT, .int (nI zs), .ref aN, .ref aL, .ref aP, .ref aD, .int (nI ac), .ref aK, .ref aZ, .ref aG, .ref aB, .int (nI b2_5.length), .int (ptI P2_4), .ref aS, .int (nI tl4_8)])), pts aS (.inl (G.2.1 0, 5, .inl fS4_6)), pts aG (.inl (G.2.1 0, 18, .inl fG)), pts aB (.inl (G.2.1 0, 5, .inl fB4_7))] H := hSep
                    have ht40 := hpk_1
                    refine lv_iconst (v := (-1)) hx hb dX4_findBest_43 (by decide) ?_
                    refine lv_istore (lv' := [(4, .int (-1)), (3, .int (nI (3 * k + 1))), (2, .int (nI (3 * j))), (1, .int (qI i)), (0, .ref mo)]) hx hb dX4_findBest_44 hl (by decide) rfl (fun ls hl => ?_)
                    have L46 : ∀ (fu : Nat) (a9 : Nat) (P1 : Nat) (b1 : List Nat) (t1 : Nat) (fS1 : Nat → Int32) (fB1 : Nat → Int32) , 7 - a9 < fu → (a9 ≤ 7) → (BestOn (smS gv) (S4 bn i j k a9) P1 b1) → (Pre fB1 b1) → ∀ (H : Heap) (locs : List Loc) (ls : Array Slot), Sep G.1 clA (Fz F s.heap.size) [pts mo (.inr (3, [.int fR, .ref aT, .int (nI zs), .ref aN, .ref aL, .ref aP, .ref aD, .int (nI ac), .ref aK, .ref aZ, .ref aG, .ref aB, .int (nI b1.length), .int (ptI P1), .ref aS, .int (nI t1)])), pts aS (.inl (G.2.1 0, 5, .inl fS1)), pts aG (.inl (G.2.1 0, 18, .inl fG)), pts aB (.inl (G.2.1 0, 5, .inl fB1))] H → va_S (Fz F s.heap.size) s.heap H locs → lv_has ls 6 [(4, .int (qI a9)), (3, .int (nI (3 * k + 1))), (2, .int (nI (3 * j))), (1, .int (qI i)), (0, .ref mo)] → W p l e ({ frames := 2, cells := 0, slots := 0, locals := 51 } : Room) s m args below meth c H locs (0) (0) QQ (F0 m 46 ls []) := by
                      intro fu
                      induction fu with
                      | zero => intro a9 P1 b1 t1 fS1 fB1 hm; exact absurd hm (Nat.not_lt_zero _)
                      | succ fu ih46 =>
                        intro a9 P1 b1 t1 fS1 fB1 hm46 hp46_0 hp46_1 hp46_2 H locs ls hSep hS hl
                        refine lv_iload hx hb dX4_findBest_46 (lv_at hl 0 rfl) ?_
                        refine lv_bipush (v := (nI 18)) hx hb dX4_findBest_48 (by decide) ?_
                        refine lv_icmp_ge (tgt := 86) hx hb dX4_findBest_50 (by decide) (fun c50 => ?_) (fun c50 => ?_)
                        · rw [qI_ge (by omega)] at c50
                          obtain rfl : a9 = 7 := by omega
                          refine lv_iinc (v := (nI (3 * (k + 1) + 1))) (lv' := [(3, .int (nI (3 * (k + 1) + 1))), (4, .int (qI 7)), (2, .int (nI (3 * j))), (1, .int (qI i)), (0, .ref mo)]) hx hb dX4_findBest_86 hl (k := 1) rfl (by rw [show 3 * (k + 1) + 1 = 3 * k + 1 + 3 by omega]; exact nI_inc _ 3) (by decide) rfl (fun ls hl => ?_)
                          refine lv_goto (tgt := 28) hx hb dX4_findBest_89 (by decide) ?_
                          exact ih28 (k + 1) P1 b1 t1 fS1 fB1 (by omega) (by omega) (hp46_1.congr (S4_7 i j k (by omega) (by omega))) (hp46_2) _ _ _ hSep hS (lv_sub hl [0, 2, 3, 4] rfl)
                        · rw [qI_ge (by omega)] at c50
                          refine lv_iconst (v := (nI 0)) hx hb dX4_findBest_53 (by decide) ?_
                          refine lv_istore (lv' := [(5, .int (nI 0)), (4, .int (qI a9)), (3, .int (nI (3 * k + 1))), (2, .int (nI (3 * j))), (1, .int (qI i)), (0, .ref mo)]) hx hb dX4_findBest_54 hl (by decide) rfl (fun ls hl => ?_)
                          have L56 : ∀ (fu : Nat) (b9 : Nat) (P1 : Nat) (b1 : List Nat) (t1 : Nat) (fS1 : Nat → Int32) (fB1 : Nat → Int32) , 6 - b9 < fu → (b9 ≤ 6) → (BestOn (smS gv) (S5 bn i j k a9 b9) P1 b1) → (Pre fB1 b1) → ∀ (H : Heap) (locs : List Loc) (ls : Array Slot), Sep G.1 clA (Fz F s.heap.size) [pts mo (.inr (3, [.int fR, .ref aT, .int (nI zs), .ref aN, .ref aL, .ref aP, .ref aD, .int (nI ac), .ref aK, .ref aZ, .ref aG, .ref aB, .int (nI b1.length), .int (ptI P1), .ref aS, .int (nI t1)])), pts aS (.inl (G.2.1 0, 5, .inl fS1)), pts aG (.inl (G.2.1 0, 18, .inl fG)), pts aB (.inl (G.2.1 0, 5, .inl fB1))] H → va_S (Fz F s.heap.size) s.heap H locs → lv_has ls 6 [(5, .int (nI (3 * b9))), (4, .int (qI a9)), (3, .int (nI (3 * k + 1))), (2, .int (nI (3 * j))), (1, .int (qI i)), (0, .ref mo)] → W p l e ({ frames := 2, cells := 0, slots := 0, locals := 51 } : Room) s m args below meth c H locs (0) (0) QQ (F0 m 56 ls []) := by
                            intro fu
                            induction fu with
                            | zero => intro b9 P1 b1 t1 fS1 fB1 hm; exact absurd hm (Nat.not_lt_zero _)
                            | succ fu ih56 =>
                              intro b9 P1 b1 t1 fS1 fB1 hm56 hp56_0 hp56_1 hp56_2 H locs ls hSep hS hl
                              refine lv_iload hx hb dX4_findBest_56 (lv_at hl 0 rfl) ?_
                              refine lv_bipush (v := (nI 18)) hx hb dX4_findBest_58 (by decide) ?_
                              refine n_icmp_ge (tgt := 80) hx hb (by omega) (by omega) dX4_findBest_60 (by decide) (fun c60 => ?_) (fun c60 => ?_)
                              · obtain rfl : b9 = 6 := by omega
                                refine lv_iinc (v := (qI (a9 + 1))) (lv' := [(4, .int (qI (a9 + 1))), (5, .int (nI (3 * 6))), (3, .int (nI (3 * k + 1))), (2, .int (nI (3 * j))), (1, .int (qI i)), (0, .ref mo)]) hx hb dX4_findBest_80 hl (k := 1) rfl (qI_s (by omega)) (by decide) rfl (fun ls hl => ?_)
                                refine lv_goto (tgt := 46) hx hb dX4_findBest_83 (by decide) ?_
                                exact ih46 (a9 + 1) P1 b1 t1 fS1 fB1 (by omega) (by omega) (hp56_1.congr (S5_6 i j k a9 (by omega) (by omega) (by omega))) (hp56_2) _ _ _ hSep hS (lv_sub hl [0, 2, 3, 4, 5] rfl)
                              · refine lv_aload_n hx hb dX4_findBest_63 rfl (lv_at hl 5 rfl) ?_
                                refine lv_iload_n hx hb dX4_findBest_64 rfl (lv_at hl 4 rfl) ?_
                                refine lv_iload_n hx hb dX4_findBest_65 rfl (lv_at hl 3 rfl) ?_
                                refine lv_iload_n hx hb dX4_findBest_66 rfl (lv_at hl 2 rfl) ?_
                                refine lv_iload hx hb dX4_findBest_67 (lv_at hl 1 rfl) ?_
                                refine lv_iload hx hb dX4_findBest_69 (lv_at hl 0 rfl) ?_
                                obtain ⟨Fk_9, hFk_9, hPk_9, hJk_9⟩ := hSep.cut (Pc := [pts mo (.inr (3, [.int fR, .ref aT, .int (nI zs), .ref aN, .ref aL, .ref aP, .ref aD, .int (nI ac), .ref aK, .ref aZ, .ref aG, .ref aB, .int (nI b1.length), .int (ptI P1), .ref aS, .int (nI t1)])), pts aS (.inl (G.2.1 0, 5, .inl fS1)), pts aG (.inl (G.2.1 0, 18, .inl fG)), pts aB (.inl (G.2.1 0, 5, .inl fB1))]) (Pr := []) (fun q h => Fz.new (Nat.le_trans hS.1 h)) [0, 1, 2, 3] [] rfl rfl rfl rfl (by decide)
                                refine c_v (va_runV (As := [.int (qI i), .int (nI (3 * j)), .int (nI (3 * k + 1)), .int (qI a9), .int (nI (3 * b9))]) (rest := []) ⟨hx, hb, hml, hown, hts⟩ (m_X4_tryAll l G Fk_9 H.size mo fR aT zs aN aL aP aD ac aK aZ aG aB bl bp aS t1 (qO i) (3 * j) (3 * k + 1) (qO a9) (some (3 * b9)) bn gv (S5 bn i j k a9 b9) P1 b1 fS1 fB1 fG (qO_ok (by omega)) (⟨⟨by omega, by omega⟩, ⟨by omega, by omega⟩, qO_ok (by omega), fun w h => by cases h; omega, by simp⟩) (hG) (hv) (hp56_1) (fun s h => S5_ok h) (hp56_2)) (cwV 5 hts (lw_V q1694 q1696 qs33 q44 q1697) rfl rfl rfl (by decide +kernel) ⟨Nat.le_of_ble_eq_true rfl, Nat.le_of_ble_eq_true rfl⟩) (sp_preV hE hS hFk_9 hPk_9 trivial (sp_recv (ci := 3) hK (hSep.cel (k := 0) rfl) rfl)) rfl rfl hl.1 rfl (lv_room (Nat.le_of_ble_eq_true rfl)) dX4_findBest_71 ⟨by first | exact Nat.le_of_ble_eq_true rfl | omega | (dsimp only; omega), by first | exact Nat.le_of_ble_eq_true rfl | omega | (dsimp only; omega)⟩) hS hFk_9 hJk_9 (fun u_11 H locs hpk_9 hSep hS hzk_9 => ?_)
                                obtain ⟨P2_12, b2_13, fS4_14, fB4_15, tl4_16⟩ := u_11
                                have hpk_9 : BestOn (smS gv) (fun s => (S5 bn i j k a9 b9) s ∨ (s = (five (qO i) (3 * j) (3 * k + 1) (qO a9) (some (3 * b9))) ∧ okS bn s)) P2_12 b2_13 ∧ Pre fB4_15 b2_13 := hpk_9
                                refine W.cs (cells' := 0) (slots' := 0) rfl rfl ?_
                                have hSep : Sep G.1 clA (Fz F s.heap.size) [pts mo (.inr (3, [.int fR, .ref aT, .int (nI zs), .ref aN, .ref aL, .ref aP, .ref aD, .int (nI ac), .ref aK, .ref aZ, .ref aG, .ref aB, .int (nI b2_13.length), .int (ptI P2_12), .ref aS, .int (nI tl4_16)])), pts aS (.inl (G.2.1 0, 5, .inl fS4_14)), pts aG (.inl (G.2.1 0, 18, .inl fG)), pts aB (.inl (G.2.1 0, 5, .inl fB4_15))] H := hSep
                                have ht71 := hpk_9
                                refine lv_iinc (v := (nI (3 * (b9 + 1)))) (lv' := [(5, .int (nI (3 * (b9 + 1)))), (4, .int (qI a9)), (3, .int (nI (3 * k + 1))), (2, .int (nI (3 * j))), (1, .int (qI i)), (0, .ref mo)]) hx hb dX4_findBest_74 hl (k := 0) rfl (by rw [Nat.mul_succ]; exact nI_inc _ _) (by decide) rfl (fun ls hl => ?_)
                                refine lv_goto (tgt := 56) hx hb dX4_findBest_77 (by decide) ?_
                                exact ih56 (b9 + 1) P2_12 b2_13 tl4_16 fS4_14 fB4_15 (by omega) (by omega) (ht71.1.congr (S5_s i j k a9 b9)) (ht71.2) _ _ _ hSep hS (lv_sub hl [0, 1, 2, 3, 4, 5] rfl)
                          exact L56 (6 - 0 + 1) 0 P1 b1 t1 fS1 fB1 (Nat.lt_succ_self _) (by omega) (hp46_1.congr (S5_0 i j k a9)) (hp46_2) _ _ _ hSep hS (lv_sub hl [0, 1, 2, 3, 4, 5] rfl)
                    exact L46 (7 - 0 + 1) 0 P2_4 b2_5 tl4_8 fS4_6 fB4_7 (Nat.lt_succ_self _) (by omega) (ht40.1.congr (S4_0 i j k)) (ht40.2) _ _ _ hSep hS (lv_sub hl [0, 1, 2, 3, 4] rfl)
              exact L28 (6 - 0 + 1) 0 P1 b1 t1 fS1 fB1 (Nat.lt_succ_self _) (by omega) (hp20_1.congr (S3_0 i j)) (hp20_2) _ _ _ hSep hS (lv_sub hl [0, 1, 2, 3] rfl)
        exact L20 (6 - 0 + 1) 0 P1 b1 t1 fS1 fB1 (Nat.lt_succ_self _) (by omega) (hp12_1.congr (S2_0 i)) (hp12_2) _ _ _ hSep hS (lv_sub hl [0, 1, 2] rfl)
  exact L12 (7 - 0 + 1) 0 0 ([]) tl fS fB (Nat.lt_succ_self _) (by omega) (BestOn.none.congr S1_0) (Pre.nil) _ _ _ hSep hS (lv_sub hl [0, 1] rfl)

set_option maxHeartbeats 600000 in
set_option maxRecDepth 100000 in
theorem m_X4_bestOf (l : Launch) (G : EVT) (F : Nat → Prop) (sz : Nat) (mo : Nat) (fR : Int32) (aT : Nat) (zs : Nat) (aN : Nat) (aL : Nat) (aP : Nat) (aD : Nat) (ac : Nat) (aK : Nat) (aZ : Nat) (aG : Nat) (aB : Nat) (bl : Nat) (bp : Int32) (aS : Nat) (tl : Nat) (a : Nat) (f : Nat → Int32) (g : GS) (t : Nat) (fS : Nat → Int32) (fB : Nat → Int32) (fG : Nat → Int32) (he : Enc f g) (ho : gOk g) (ht : t < 2) : Met l yX4_bestOf (ws_ yX4_bestOf cX4_bestOf 3 (some .int)) ({ frames := 3, cells := 0, slots := 0, locals := 89 } : Room) (SPc G F sz [.ref mo, .ref a, .int (nI t)] [pts mo (.inr (3, [.int fR, .ref aT, .int (nI zs), .ref aN, .ref aL, .ref aP, .ref aD, .int (nI ac), .ref aK, .ref aZ, .ref aG, .ref aB, .int (nI bl), .int bp, .ref aS, .int (nI tl)])), pts a (.inl (G.2.1 0, 89, .inl f)), pts aS (.inl (G.2.1 0, 5, .inl fS)), pts aG (.inl (G.2.1 0, 18, .inl fG)), pts aB (.inl (G.2.1 0, 5, .inl fB))] (fun _ => True)) (SQi G F sz (fun (r : Int32) (u : Nat × (List Nat) × (Nat → Int32) × (Nat → Int32) × Nat × (Nat → Int32)) => r = (ptI u.1) ∧ BestOn (smS (gain g)) (okS (bnG g t)) u.1 u.2.1 ∧ Pre u.2.2.2.1 u.2.1) (fun (u : Nat × (List Nat) × (Nat → Int32) × (Nat → Int32) × Nat × (Nat → Int32)) => [pts mo (.inr (3, [.int fR, .ref aT, .int (nI zs), .ref aN, .ref aL, .ref aP, .ref aD, .int (nI ac), .ref aK, .ref aZ, .ref aG, .ref aB, .int (nI u.2.1.length), .int (ptI u.1), .ref aS, .int (nI u.2.2.2.2.1)])), pts a (.inl (G.2.1 0, 89, .inl f)), pts aS (.inl (G.2.1 0, 5, .inl u.2.2.1)), pts aG (.inl (G.2.1 0, 18, .inl u.2.2.2.2.2)), pts aB (.inl (G.2.1 0, 5, .inl u.2.2.2.1))])) (0) (0) (Fz F sz) := by
  refine sp_of RX4 (by decide) rfl (Nat.le_of_ble_eq_true rfl) ?_
  intro p e s m args below meth c ls QQ hx hb hr hts hown hlocks hml hnm hsz hSep hΦ hE hS hl hQ
  subst hsz
  have hK := hE.1
  have hl : lv_has ls 3 [(0, .ref mo), (1, .ref a), (2, .int (nI t))] := hl
  refine lv_aload_n hx hb dX4_bestOf_0 rfl (lv_at hl 0 rfl) ?_
  refine lv_aload_n hx hb dX4_bestOf_1 rfl (lv_at hl 1 rfl) ?_
  refine lv_iload_n hx hb dX4_bestOf_2 rfl (lv_at hl 2 rfl) ?_
  obtain ⟨Fk_1, hFk_1, hPk_1, hJk_1⟩ := hSep.cut (Pc := [pts mo (.inr (3, [.int fR, .ref aT, .int (nI zs), .ref aN, .ref aL, .ref aP, .ref aD, .int (nI ac), .ref aK, .ref aZ, .ref aG, .ref aB, .int (nI bl), .int bp, .ref aS, .int (nI tl)])), pts a (.inl (G.2.1 0, 89, .inl f)), pts aG (.inl (G.2.1 0, 18, .inl fG))]) (Pr := [pts aS (.inl (G.2.1 0, 5, .inl fS)), pts aB (.inl (G.2.1 0, 5, .inl fB))]) (fun q h => Fz.new (Nat.le_trans hS.1 h)) [0, 1, 3] [2, 4] rfl rfl rfl rfl (by decide)
  refine c_v (va_runV (As := [.ref a, .int (nI t)]) (rest := []) ⟨hx, hb, hml, hown, hts⟩ (m_X4_reckon l G Fk_1 s.heap.size mo fR aT zs aN aL aP aD ac aK aZ aG aB bl bp aS tl a f g t fG (by first | assumption | omega) (by first | assumption | omega) (by first | assumption | omega)) (cwV 2 hts (lw_V q1686 q1688 qs31 q44 q1689) rfl rfl rfl (by decide +kernel) ⟨Nat.le_of_ble_eq_true rfl, Nat.le_of_ble_eq_true rfl⟩) (sp_preV hE hS hFk_1 hPk_1 trivial (sp_recv (ci := 3) hK (hSep.cel (k := 0) rfl) rfl)) rfl rfl hl.1 rfl (lv_room (Nat.le_of_ble_eq_true rfl)) dX4_bestOf_3 ⟨by first | exact Nat.le_of_ble_eq_true rfl | omega | (dsimp only; omega), by first | exact Nat.le_of_ble_eq_true rfl | omega | (dsimp only; omega)⟩) hS hFk_1 hJk_1 (fun u_3 H locs hpk_1 hSep hS hzk_1 => ?_)
  obtain ⟨fG2, rfl⟩ : ∃ z, z = u_3 := ⟨_, rfl⟩
  have hpk_1 : ∀ w, w < 18 → fG2 w = gI (bnG g t) (gain g) w := hpk_1
  refine W.cs (cells' := 0) (slots' := 0) rfl rfl ?_
  have hSep : Sep G.1 clA (Fz F s.heap.size) [pts aS (.inl (G.2.1 0, 5, .inl fS)), pts aB (.inl (G.2.1 0, 5, .inl fB)), pts mo (.inr (3, [.int fR, .ref aT, .int (nI zs), .ref aN, .ref aL, .ref aP, .ref aD, .int (nI ac), .ref aK, .ref aZ, .ref aG, .ref aB, .int (nI bl), .int bp, .ref aS, .int (nI tl)])), pts a (.inl (G.2.1 0, 89, .inl f)), pts aG (.inl (G.2.1 0, 18, .inl fG2))] H := hSep
  have hG2 := hpk_1
  refine lv_aload_n hx hb dX4_bestOf_6 rfl (lv_at hl 0 rfl) ?_
  obtain ⟨Fk_4, hFk_4, hPk_4, hJk_4⟩ := hSep.cut (Pc := [pts mo (.inr (3, [.int fR, .ref aT, .int (nI zs), .ref aN, .ref aL, .ref aP, .ref aD, .int (nI ac), .ref aK, .ref aZ, .ref aG, .ref aB, .int (nI bl), .int bp, .ref aS, .int (nI tl)])), pts aS (.inl (G.2.1 0, 5, .inl fS)), pts aG (.inl (G.2.1 0, 18, .inl fG2)), pts aB (.inl (G.2.1 0, 5, .inl fB))]) (Pr := [pts a (.inl (G.2.1 0, 89, .inl f))]) (fun q h => Fz.new (Nat.le_trans hS.1 h)) [2, 0, 4, 1] [3] rfl rfl rfl rfl (by decide)
  refine c_i (va_runV (As := []) (rest := []) ⟨hx, hb, hml, hown, hts⟩ (m_X4_findBest l G Fk_4 H.size mo fR aT zs aN aL aP aD ac aK aZ aG aB bl bp aS tl (bnG g t) (gain g) fS fB fG2 (hG2) (gain_le g)) (cwV 0 hts (lw_V q1690 q1692 qs32 q44 q1693) rfl rfl rfl (by decide +kernel) ⟨Nat.le_of_ble_eq_true rfl, Nat.le_of_ble_eq_true rfl⟩) (sp_preV hE hS hFk_4 hPk_4 trivial (sp_recv (ci := 3) hK (hSep.cel (k := 2) rfl) rfl)) rfl rfl hl.1 rfl (lv_room (Nat.le_of_ble_eq_true rfl)) dX4_bestOf_7 ⟨by first | exact Nat.le_of_ble_eq_true rfl | omega | (dsimp only; omega), by first | exact Nat.le_of_ble_eq_true rfl | omega | (dsimp only; omega)⟩) hS hFk_4 hJk_4 (fun r_5 u_6 H locs hpk_4 hSep hS hzk_4 => ?_)
  obtain ⟨P2, b2, fS4, fB4, tl4⟩ := u_6
  obtain ⟨rfl, hpk_4⟩ : r_5 = (ptI P2) ∧ BestOn (smS (gain g)) (okS (bnG g t)) P2 b2 ∧ Pre fB4 b2 := hpk_4
  refine W.cs (cells' := 0) (slots' := 0) rfl rfl ?_
  have hSep : Sep G.1 clA (Fz F s.heap.size) [pts a (.inl (G.2.1 0, 89, .inl f)), pts mo (.inr (3, [.int fR, .ref aT, .int (nI zs), .ref aN, .ref aL, .ref aP, .ref aD, .int (nI ac), .ref aK, .ref aZ, .ref aG, .ref aB, .int (nI b2.length), .int (ptI P2), .ref aS, .int (nI tl4)])), pts aS (.inl (G.2.1 0, 5, .inl fS4)), pts aG (.inl (G.2.1 0, 18, .inl fG2)), pts aB (.inl (G.2.1 0, 5, .inl fB4))] H := hSep
  have hF7 := hpk_4
  rw [hQ]
  exact r_i (r := (ptI P2)) (u := (P2, b2, fS4, fB4, tl4, fG2)) hx hb hr (⟨rfl, hF7⟩) (hSep.pick [1, 0, 2, 3, 4] rfl rfl) hS (by first | exact Nat.le_of_ble_eq_true rfl | omega | (dsimp only; omega)) (by first | exact Nat.le_of_ble_eq_true rfl | omega | (dsimp only; omega)) dX4_bestOf_10 hlocks
