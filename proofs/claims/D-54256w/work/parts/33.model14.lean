set_option maxRecDepth 100000
set_option maxHeartbeats 600000 in
set_option maxRecDepth 100000 in
theorem m_X4_begin (l : Launch) (G : EVT) (F : Nat → Prop) (sz : Nat) (mo : Nat) (rf : Int32) (σ : MS) (x : Int64)  : Met l yX4_begin (ws_ yX4_begin cX4_begin 8 (some .int)) ({ frames := 2, cells := 0, slots := 0, locals := 45 } : Room) (SPc G F sz [.ref mo, .long x] [modA G mo rf σ] (fun _ => True)) (SQi G F sz (fun (r : Int32) (u : Unit) => (oBegin σ x).1 = 0 → r = (oBegin σ x).2.1) (fun (u : Unit) => [modA G mo (nI (oBegin σ x).1) (oBegin σ x).2.2])) (0) (0) (Fz F sz) := by
  refine sp_of RX4 (by decide) rfl (Nat.le_of_ble_eq_true rfl) ?_
  intro p e s m args below meth c ls QQ hx hb hr hts hown hlocks hml hnm hsz hSep hΦ hE hS hl hQ
  subst hsz
  have hK := hE.1
  have hl : lv_has ls 8 [(0, .ref mo), (1, .long x)] := hl
  obtain ⟨g, hs, kp, T⟩ := σ
  obtain ⟨aT, aN, aL, aP, aD, aK, aZ, aG, aB, aS, bl, bp, tl, fT, fN, fL, fP, fD, fK, fZ, fG, fB, fS, hC, hSep⟩ := mod_unpk hSep
  have hg : gV g := hC.1.1
  have ho : gOk g := hC.1.1.1
  have he : Enc fN g := hC.1.2
  have hT : Pre fT T := hC.2.2.2.1
  have hT20 : T.length ≤ 20 := hC.2.2.2.2.1
  have hT256 : ∀ w ∈ T, w < 256 := hC.2.2.2.2.2
  have hD14 : hs.length ≤ 14 := hC.2.1.1
  refine lv_aload_n hx hb dX4_begin_0 rfl (lv_at hl 0 rfl) ?_
  refine lv_iconst (v := (nI 0)) hx hb dX4_begin_1 (by decide) ?_
  refine s_put (ci := 3) (v := .int (nI 0)) (ty := .int) (C := RX4) (T := TX4) (N := 16) hx hb hts in_X4 tyX4 tyX4_ok nmX4 hown hK hSep hS 0 rfl rfl 0 (by decide) (hts _ q1473) (fun _ h9 => h9) rfl (by decide +kernel) rfl rfl (Nat.le_of_ble_eq_true rfl) dX4_begin_2 (fun H locs hSep hS => ?_)
  have hSep : Sep G.1 clA (Fz F s.heap.size) [pts mo (.inr (3, [.int (nI 0), .ref aT, .int (nI T.length), .ref aN, .ref aL, .ref aP, .ref aD, .int (nI hs.length), .ref aK, .ref aZ, .ref aG, .ref aB, .int (nI bl), .int bp, .ref aS, .int (nI tl)])), pts aT (.inl (G.2.1 0, 20, .inl fT)), pts aN (.inl (G.2.1 0, 89, .inl fN)), pts aL (.inl (G.2.1 0, 89, .inl fL)), pts aP (.inl (G.2.1 0, 89, .inl fP)), pts aD (.inl (G.2.1 0, 1246, .inl fD)), pts aK (.inl (G.2.1 0, 178, .inl fK)), pts aZ (.inl (G.2.1 2, 2, .inl fZ)), pts aG (.inl (G.2.1 0, 18, .inl fG)), pts aB (.inl (G.2.1 0, 5, .inl fB)), pts aS (.inl (G.2.1 0, 5, .inl fS))] H := hSep
  refine lv_aload_n hx hb dX4_begin_5 rfl (lv_at hl 0 rfl) ?_
  obtain ⟨Fk_1, hFk_1, hPk_1, hJk_1⟩ := hSep.cut (Pc := [pts mo (.inr (3, [.int (nI 0), .ref aT, .int (nI T.length), .ref aN, .ref aL, .ref aP, .ref aD, .int (nI hs.length), .ref aK, .ref aZ, .ref aG, .ref aB, .int (nI bl), .int bp, .ref aS, .int (nI tl)])), pts aN (.inl (G.2.1 0, 89, .inl fN)), pts aD (.inl (G.2.1 0, 1246, .inl fD))]) (Pr := [pts aT (.inl (G.2.1 0, 20, .inl fT)), pts aL (.inl (G.2.1 0, 89, .inl fL)), pts aP (.inl (G.2.1 0, 89, .inl fP)), pts aK (.inl (G.2.1 0, 178, .inl fK)), pts aZ (.inl (G.2.1 2, 2, .inl fZ)), pts aG (.inl (G.2.1 0, 18, .inl fG)), pts aB (.inl (G.2.1 0, 5, .inl fB)), pts aS (.inl (G.2.1 0, 5, .inl fS))]) (fun q h => Fz.new (Nat.le_trans hS.1 h)) [0, 2, 5] [1, 3, 4, 6, 7, 8, 9, 10] rfl rfl rfl rfl (by decide)
  refine c_v (va_runV (As := []) (rest := []) ⟨hx, hb, hml, hown, hts⟩ (m_X4_remember l G Fk_1 H.size mo (nI 0) aT T.length aN aL aP aD hs.length aK aZ aG aB bl bp aS tl hs g fN fD (rfl) (hC.2.1) (he) (hg)) (cwV 0 hts (lw_V q1612 q1614 qs24 q44 q1615) rfl rfl rfl (by decide +kernel) ⟨Nat.le_of_ble_eq_true rfl, Nat.le_of_ble_eq_true rfl⟩) (sp_preV hE hS hFk_1 hPk_1 trivial (sp_recv (ci := 3) hK (hSep.cel (k := 0) rfl) rfl)) rfl rfl hl.1 rfl (lv_room (Nat.le_of_ble_eq_true rfl)) dX4_begin_6 ⟨by first | exact Nat.le_of_ble_eq_true rfl | omega | (dsimp only; omega), by first | exact Nat.le_of_ble_eq_true rfl | omega | (dsimp only; omega)⟩) hS hFk_1 hJk_1 (fun u_3 H locs hpk_1 hSep hS hzk_1 => ?_)
  obtain ⟨fD5, rfl⟩ : ∃ z, z = u_3 := ⟨_, rfl⟩
  have hpk_1 : histC (pushH hs g) fD5 := hpk_1
  refine W.cs (cells' := 0) (slots' := 0) rfl rfl ?_
  have hSep : Sep G.1 clA (Fz F s.heap.size) [pts aT (.inl (G.2.1 0, 20, .inl fT)), pts aL (.inl (G.2.1 0, 89, .inl fL)), pts aP (.inl (G.2.1 0, 89, .inl fP)), pts aK (.inl (G.2.1 0, 178, .inl fK)), pts aZ (.inl (G.2.1 2, 2, .inl fZ)), pts aG (.inl (G.2.1 0, 18, .inl fG)), pts aB (.inl (G.2.1 0, 5, .inl fB)), pts aS (.inl (G.2.1 0, 5, .inl fS)), pts mo (.inr (3, [.int (nI 0), .ref aT, .int (nI T.length), .ref aN, .ref aL, .ref aP, .ref aD, .int (nI ((pushH hs g).length)), .ref aK, .ref aZ, .ref aG, .ref aB, .int (nI bl), .int bp, .ref aS, .int (nI tl)])), pts aN (.inl (G.2.1 0, 89, .inl fN)), pts aD (.inl (G.2.1 0, 1246, .inl fD5))] H := hSep
  have hH5 := hpk_1
  refine lv_iconst (v := (nI 0)) hx hb dX4_begin_9 (by decide) ?_
  refine lv_istore_n (lv' := [(3, .int (nI 0)), (0, .ref mo), (1, .long x)]) hx hb dX4_begin_10 rfl hl (by decide) rfl (fun ls hl => ?_)
  have L11 : ∀ (fu : Nat) (k : Nat) (f2 : Nat → Int32) , 89 - k < fu → (k ≤ 89) → (∀ i, i < k → f2 i = if 7 ≤ i ∧ i < 11 then fN i else nI 0) → (∀ i, k ≤ i → f2 i = fN i) → ∀ (H : Heap) (locs : List Loc) (ls : Array Slot), Sep G.1 clA (Fz F s.heap.size) [pts aT (.inl (G.2.1 0, 20, .inl fT)), pts aL (.inl (G.2.1 0, 89, .inl fL)), pts aP (.inl (G.2.1 0, 89, .inl fP)), pts aK (.inl (G.2.1 0, 178, .inl fK)), pts aZ (.inl (G.2.1 2, 2, .inl fZ)), pts aG (.inl (G.2.1 0, 18, .inl fG)), pts aB (.inl (G.2.1 0, 5, .inl fB)), pts aS (.inl (G.2.1 0, 5, .inl fS)), pts mo (.inr (3, [.int (nI 0), .ref aT, .int (nI T.length), .ref aN, .ref aL, .ref aP, .ref aD, .int (nI ((pushH hs g).length)), .ref aK, .ref aZ, .ref aG, .ref aB, .int (nI bl), .int bp, .ref aS, .int (nI tl)])), pts aN (.inl (G.2.1 0, 89, .inl f2)), pts aD (.inl (G.2.1 0, 1246, .inl fD5))] H → va_S (Fz F s.heap.size) s.heap H locs → lv_has ls 8 [(3, .int (nI k)), (0, .ref mo), (1, .long x)] → W p l e ({ frames := 2, cells := 0, slots := 0, locals := 45 } : Room) s m args below meth c H locs (0) (0) QQ (F0 m 11 ls []) := by
    intro fu
    induction fu with
    | zero => intro k f2 hm; exact absurd hm (Nat.not_lt_zero _)
    | succ fu ih11 =>
      intro k f2 hm11 hp11_0 hp11_1 hp11_2 H locs ls hSep hS hl
      refine lv_iload_n hx hb dX4_begin_11 rfl (lv_at hl 0 rfl) ?_
      refine lv_bipush (v := (nI 89)) hx hb dX4_begin_12 (by decide) ?_
      refine n_icmp_ge (tgt := 53) hx hb (by omega) (by omega) dX4_begin_14 (by decide) (fun c14 => ?_) (fun c14 => ?_)
      · obtain rfl : k = 89 := by omega
        refine lv_aload_n hx hb dX4_begin_53 rfl (lv_at hl 1 rfl) ?_
        refine va_get (D := G.1) (ci := 3) (v := .ref aN) (C := RX4) (T := TX4) (N := 16) hx hb hts in_X4 hown hK (hSep.cel (k := 8) rfl) 0 rfl rfl 3 (by decide) (hts _ q1476) (fun _ h9 => h9) rfl dX4_begin_54 ?_
        refine lv_iconst (v := (nI 0)) hx hb dX4_begin_57 (by decide) ?_
        refine lv_iconst (v := (nI 1)) hx hb dX4_begin_58 (by decide) ?_
        refine n_iast (i := 0) (x := (nI 1)) (y := (nI 1)) hx hb hK hSep hS 9 rfl 0 rfl (by omega) (by omega) (rfl) dX4_begin_59 (fun H locs hSep hS => ?_)
        have hSep : Sep G.1 clA (Fz F s.heap.size) [pts aT (.inl (G.2.1 0, 20, .inl fT)), pts aL (.inl (G.2.1 0, 89, .inl fL)), pts aP (.inl (G.2.1 0, 89, .inl fP)), pts aK (.inl (G.2.1 0, 178, .inl fK)), pts aZ (.inl (G.2.1 2, 2, .inl fZ)), pts aG (.inl (G.2.1 0, 18, .inl fG)), pts aB (.inl (G.2.1 0, 5, .inl fB)), pts aS (.inl (G.2.1 0, 5, .inl fS)), pts mo (.inr (3, [.int (nI 0), .ref aT, .int (nI T.length), .ref aN, .ref aL, .ref aP, .ref aD, .int (nI ((pushH hs g).length)), .ref aK, .ref aZ, .ref aG, .ref aB, .int (nI bl), .int bp, .ref aS, .int (nI tl)])), pts aN (.inl (G.2.1 0, 89, .inl (upd f2 0 (nI 1)))), pts aD (.inl (G.2.1 0, 1246, .inl fD5))] H := hSep
        refine lv_lload_n hx hb dX4_begin_60 rfl (lv_at hl 2 rfl) ?_
        refine lv_lstore_n (lv' := [(3, .long x), (0, .ref mo), (1, .long x)]) hx hb dX4_begin_61 rfl hl (by decide) rfl (fun ls hl => ?_)
        refine lv_iconst (v := (nI 0)) hx hb dX4_begin_62 (by decide) ?_
        refine lv_istore (lv' := [(5, .int (nI 0)), (3, .long x), (0, .ref mo), (1, .long x)]) hx hb dX4_begin_63 hl (by decide) rfl (fun ls hl => ?_)
        refine lv_iconst (v := (nI 0)) hx hb dX4_begin_65 (by decide) ?_
        refine lv_istore (lv' := [(6, .int (nI 0)), (5, .int (nI 0)), (3, .long x), (0, .ref mo), (1, .long x)]) hx hb dX4_begin_66 hl (by decide) rfl (fun ls hl => ?_)
        have L68 : ∀ (fu : Nat) (l9 : Nat) (f3 : Nat → Int32) , 3 - l9 < fu → (l9 ≤ 3) → (∀ i, i < 89 → f3 i = begF g x l9 i) → ∀ (H : Heap) (locs : List Loc) (ls : Array Slot), Sep G.1 clA (Fz F s.heap.size) [pts aT (.inl (G.2.1 0, 20, .inl fT)), pts aL (.inl (G.2.1 0, 89, .inl fL)), pts aP (.inl (G.2.1 0, 89, .inl fP)), pts aK (.inl (G.2.1 0, 178, .inl fK)), pts aZ (.inl (G.2.1 2, 2, .inl fZ)), pts aG (.inl (G.2.1 0, 18, .inl fG)), pts aB (.inl (G.2.1 0, 5, .inl fB)), pts aS (.inl (G.2.1 0, 5, .inl fS)), pts mo (.inr (3, [.int (nI 0), .ref aT, .int (nI T.length), .ref aN, .ref aL, .ref aP, .ref aD, .int (nI ((pushH hs g).length)), .ref aK, .ref aZ, .ref aG, .ref aB, .int (nI bl), .int bp, .ref aS, .int (nI tl)])), pts aN (.inl (G.2.1 0, 89, .inl f3)), pts aD (.inl (G.2.1 0, 1246, .inl fD5))] H → va_S (Fz F s.heap.size) s.heap H locs → lv_has ls 8 [(6, .int (nI l9)), (5, .int (orS x l9)), (3, .long (lcgN x (18 * l9))), (0, .ref mo), (1, .long x)] → W p l e ({ frames := 2, cells := 0, slots := 0, locals := 45 } : Room) s m args below meth c H locs (0) (0) QQ (F0 m 68 ls []) := by
          intro fu
          induction fu with
          | zero => intro l9 f3 hm; exact absurd hm (Nat.not_lt_zero _)
          | succ fu ih68 =>
            intro l9 f3 hm68 hp68_0 hp68_1 H locs ls hSep hS hl
            refine lv_iload hx hb dX4_begin_68 (lv_at hl 0 rfl) ?_
            refine lv_iconst (v := (nI 3)) hx hb dX4_begin_70 (by decide) ?_
            refine n_icmp_ge (tgt := 163) hx hb (by omega) (by omega) dX4_begin_71 (by decide) (fun c71 => ?_) (fun c71 => ?_)
            · obtain rfl : l9 = 3 := by omega
              refine lv_iconst (v := (nI 0)) hx hb dX4_begin_163 (by decide) ?_
              refine lv_istore (lv' := [(6, .int (nI 0)), (5, .int (orS x 3)), (3, .long (lcgN x (18 * 3))), (0, .ref mo), (1, .long x)]) hx hb dX4_begin_164 hl (by decide) rfl (fun ls hl => ?_)
              refine lv_iconst (v := (nI 0)) hx hb dX4_begin_166 (by decide) ?_
              refine lv_istore (lv' := [(7, .int (nI 0)), (6, .int (nI 0)), (5, .int (orS x 3)), (3, .long (lcgN x (18 * 3))), (0, .ref mo), (1, .long x)]) hx hb dX4_begin_167 hl (by decide) rfl (fun ls hl => ?_)
              have L169 : ∀ (fu : Nat) (w9 : Nat) , 18 - w9 < fu → (w9 ≤ 18) → ∀ (H : Heap) (locs : List Loc) (ls : Array Slot), Sep G.1 clA (Fz F s.heap.size) [pts aT (.inl (G.2.1 0, 20, .inl fT)), pts aL (.inl (G.2.1 0, 89, .inl fL)), pts aP (.inl (G.2.1 0, 89, .inl fP)), pts aK (.inl (G.2.1 0, 178, .inl fK)), pts aZ (.inl (G.2.1 2, 2, .inl fZ)), pts aG (.inl (G.2.1 0, 18, .inl fG)), pts aB (.inl (G.2.1 0, 5, .inl fB)), pts aS (.inl (G.2.1 0, 5, .inl fS)), pts mo (.inr (3, [.int (nI 0), .ref aT, .int (nI T.length), .ref aN, .ref aL, .ref aP, .ref aD, .int (nI ((pushH hs g).length)), .ref aK, .ref aZ, .ref aG, .ref aB, .int (nI bl), .int bp, .ref aS, .int (nI tl)])), pts aN (.inl (G.2.1 0, 89, .inl f3)), pts aD (.inl (G.2.1 0, 1246, .inl fD5))] H → va_S (Fz F s.heap.size) s.heap H locs → lv_has ls 8 [(7, .int (nI w9)), (6, .int (nI (cntB (liked x) w9))), (5, .int (orS x 3)), (0, .ref mo), (1, .long x)] → W p l e ({ frames := 2, cells := 0, slots := 0, locals := 45 } : Room) s m args below meth c H locs (0) (0) QQ (F0 m 169 ls []) := by
                intro fu
                induction fu with
                | zero => intro w9 hm; exact absurd hm (Nat.not_lt_zero _)
                | succ fu ih169 =>
                  intro w9 hm169 hp169_0 H locs ls hSep hS hl
                  refine lv_iload hx hb dX4_begin_169 (lv_at hl 0 rfl) ?_
                  refine lv_bipush (v := (nI 18)) hx hb dX4_begin_171 (by decide) ?_
                  refine n_icmp_ge (tgt := 194) hx hb (by omega) (by omega) dX4_begin_173 (by decide) (fun c173 => ?_) (fun c173 => ?_)
                  · obtain rfl : w9 = 18 := by omega
                    refine lv_iload hx hb dX4_begin_194 (lv_at hl 1 rfl) ?_
                    have hop : oBegin (g, hs, kp, T) x = (0, nI (cntB (liked x) 18), actd (g, hs, kp, T) (gBegin g x)) := rfl
                    rw [hQ]
                    exact r_i (r := (nI (cntB (liked x) 18))) (u := ()) hx hb hr (by rw [hop]; exact fun _ => rfl) (by rw [hop]; exact mod_close (hSep.pick [8, 0, 9, 1, 2, 10, 3, 4, 5, 6, 7] rfl rfl) rfl rfl rfl (⟨⟨gV_begin ho x, begF_enc hp68_1⟩, hH5, hC.2.2⟩)) hS (by first | exact Nat.le_of_ble_eq_true rfl | omega | (dsimp only; omega)) (by first | exact Nat.le_of_ble_eq_true rfl | omega | (dsimp only; omega)) dX4_begin_196 hlocks
                  · refine lv_iload hx hb dX4_begin_176 (lv_at hl 1 rfl) ?_
                    refine lv_iload hx hb dX4_begin_178 (lv_at hl 2 rfl) ?_
                    refine lv_iload hx hb dX4_begin_180 (lv_at hl 0 rfl) ?_
                    refine lv_ishr hx hb dX4_begin_182 ?_
                    refine lv_iconst (v := (nI 1)) hx hb dX4_begin_183 (by decide) ?_
                    refine lv_iand hx hb dX4_begin_184 ?_
                    refine n_eq (y := (bI (liked x w9))) (orS_3 x (by omega)) ?_
                    refine lv_iadd hx hb dX4_begin_185 ?_
                    refine n_eq (y := (nI (cntB (liked x) (w9 + 1)))) (cntB_s _ _) ?_
                    refine lv_istore (lv' := [(6, .int (nI (cntB (liked x) (w9 + 1)))), (7, .int (nI w9)), (5, .int (orS x 3)), (0, .ref mo), (1, .long x)]) hx hb dX4_begin_186 hl (by decide) rfl (fun ls hl => ?_)
                    refine lv_iinc (v := (nI (w9 + 1))) (lv' := [(7, .int (nI (w9 + 1))), (6, .int (nI (cntB (liked x) (w9 + 1)))), (5, .int (orS x 3)), (0, .ref mo), (1, .long x)]) hx hb dX4_begin_188 hl (k := 1) rfl (nI_inc w9 1) (by decide) rfl (fun ls hl => ?_)
                    refine lv_goto (tgt := 169) hx hb dX4_begin_191 (by decide) ?_
                    exact ih169 (w9 + 1) (by omega) (by omega) _ _ _ hSep hS (lv_sub hl [0, 1, 2, 3, 4] rfl)
              exact L169 (18 - 0 + 1) 0 (Nat.lt_succ_self _) (by omega) _ _ _ hSep hS (lv_sub hl [0, 1, 2, 4, 5] rfl)
            · refine lv_aload_n hx hb dX4_begin_74 rfl (lv_at hl 3 rfl) ?_
              refine va_get (D := G.1) (ci := 3) (v := .ref aN) (C := RX4) (T := TX4) (N := 16) hx hb hts in_X4 hown hK (hSep.cel (k := 8) rfl) 0 rfl rfl 3 (by decide) (hts _ q1476) (fun _ h9 => h9) rfl dX4_begin_75 ?_
              refine lv_bipush (v := (nI 17)) hx hb dX4_begin_78 (by decide) ?_
              refine lv_iload hx hb dX4_begin_80 (lv_at hl 0 rfl) ?_
              refine n_iadd hx hb dX4_begin_82 ?_
              refine lv_iconst (v := (nI 1)) hx hb dX4_begin_83 (by decide) ?_
              refine n_iast (i := 17 + l9) (x := (nI 1)) (y := (nI 1)) hx hb hK hSep hS 9 rfl 0 rfl (by omega) (by omega) (rfl) dX4_begin_84 (fun H locs hSep hS => ?_)
              have hSep : Sep G.1 clA (Fz F s.heap.size) [pts aT (.inl (G.2.1 0, 20, .inl fT)), pts aL (.inl (G.2.1 0, 89, .inl fL)), pts aP (.inl (G.2.1 0, 89, .inl fP)), pts aK (.inl (G.2.1 0, 178, .inl fK)), pts aZ (.inl (G.2.1 2, 2, .inl fZ)), pts aG (.inl (G.2.1 0, 18, .inl fG)), pts aB (.inl (G.2.1 0, 5, .inl fB)), pts aS (.inl (G.2.1 0, 5, .inl fS)), pts mo (.inr (3, [.int (nI 0), .ref aT, .int (nI T.length), .ref aN, .ref aL, .ref aP, .ref aD, .int (nI ((pushH hs g).length)), .ref aK, .ref aZ, .ref aG, .ref aB, .int (nI bl), .int bp, .ref aS, .int (nI tl)])), pts aN (.inl (G.2.1 0, 89, .inl (upd f3 (17 + l9) (nI 1)))), pts aD (.inl (G.2.1 0, 1246, .inl fD5))] H := hSep
              refine lv_iconst (v := (nI 0)) hx hb dX4_begin_85 (by decide) ?_
              refine lv_istore (lv' := [(7, .int (nI 0)), (6, .int (nI l9)), (5, .int (orS x l9)), (3, .long (lcgN x (18 * l9))), (0, .ref mo), (1, .long x)]) hx hb dX4_begin_86 hl (by decide) rfl (fun ls hl => ?_)
              have L88 : ∀ (fu : Nat) (w9 : Nat) (f4 : Nat → Int32) , 18 - w9 < fu → (w9 ≤ 18) → (∀ i, i < 89 → f4 i = begW g x l9 w9 i) → ∀ (H : Heap) (locs : List Loc) (ls : Array Slot), Sep G.1 clA (Fz F s.heap.size) [pts aT (.inl (G.2.1 0, 20, .inl fT)), pts aL (.inl (G.2.1 0, 89, .inl fL)), pts aP (.inl (G.2.1 0, 89, .inl fP)), pts aK (.inl (G.2.1 0, 178, .inl fK)), pts aZ (.inl (G.2.1 2, 2, .inl fZ)), pts aG (.inl (G.2.1 0, 18, .inl fG)), pts aB (.inl (G.2.1 0, 5, .inl fB)), pts aS (.inl (G.2.1 0, 5, .inl fS)), pts mo (.inr (3, [.int (nI 0), .ref aT, .int (nI T.length), .ref aN, .ref aL, .ref aP, .ref aD, .int (nI ((pushH hs g).length)), .ref aK, .ref aZ, .ref aG, .ref aB, .int (nI bl), .int bp, .ref aS, .int (nI tl)])), pts aN (.inl (G.2.1 0, 89, .inl f4)), pts aD (.inl (G.2.1 0, 1246, .inl fD5))] H → va_S (Fz F s.heap.size) s.heap H locs → lv_has ls 8 [(7, .int (nI w9)), (6, .int (nI l9)), (5, .int (orS x l9)), (3, .long (lcgN x (18 * l9 + w9))), (0, .ref mo), (1, .long x)] → W p l e ({ frames := 2, cells := 0, slots := 0, locals := 45 } : Room) s m args below meth c H locs (0) (0) QQ (F0 m 88 ls []) := by
                intro fu
                induction fu with
                | zero => intro w9 f4 hm; exact absurd hm (Nat.not_lt_zero _)
                | succ fu ih88 =>
                  intro w9 f4 hm88 hp88_0 hp88_1 H locs ls hSep hS hl
                  refine lv_iload hx hb dX4_begin_88 (lv_at hl 0 rfl) ?_
                  refine lv_bipush (v := (nI 18)) hx hb dX4_begin_90 (by decide) ?_
                  refine n_icmp_ge (tgt := 142) hx hb (by omega) (by omega) dX4_begin_92 (by decide) (fun c92 => ?_) (fun c92 => ?_)
                  · obtain rfl : w9 = 18 := by omega
                    refine lv_iload hx hb dX4_begin_142 (lv_at hl 2 rfl) ?_
                    refine lv_aload_n hx hb dX4_begin_144 rfl (lv_at hl 4 rfl) ?_
                    refine va_get (D := G.1) (ci := 3) (v := .ref aN) (C := RX4) (T := TX4) (N := 16) hx hb hts in_X4 hown hK (hSep.cel (k := 8) rfl) 0 rfl rfl 3 (by decide) (hts _ q1476) (fun _ h9 => h9) rfl dX4_begin_145 ?_
                    refine lv_bipush (v := (nI 11)) hx hb dX4_begin_148 (by decide) ?_
                    refine lv_iload hx hb dX4_begin_150 (lv_at hl 1 rfl) ?_
                    refine n_iadd hx hb dX4_begin_152 ?_
                    refine n_iald (i := 11 + l9) hx hb hK (hSep.cel (k := 9) rfl) 0 rfl (by omega) (by omega) dX4_begin_153 ?_
                    refine n_eq (y := (mkS (lik x l9) 18)) (by rw [hp88_1 _ (by omega)]; unfold begW; rw [if_neg (by omega), if_pos rfl]) ?_
                    refine lv_ior hx hb dX4_begin_154 ?_
                    refine n_eq (y := (orS x (l9 + 1))) (rfl) ?_
                    refine lv_istore (lv' := [(5, .int (orS x (l9 + 1))), (7, .int (nI 18)), (6, .int (nI l9)), (3, .long (lcgN x (18 * l9 + 18))), (0, .ref mo), (1, .long x)]) hx hb dX4_begin_155 hl (by decide) rfl (fun ls hl => ?_)
                    refine lv_iinc (v := (nI (l9 + 1))) (lv' := [(6, .int (nI (l9 + 1))), (5, .int (orS x (l9 + 1))), (7, .int (nI 18)), (3, .long (lcgN x (18 * l9 + 18))), (0, .ref mo), (1, .long x)]) hx hb dX4_begin_157 hl (k := 2) rfl (nI_inc l9 1) (by decide) rfl (fun ls hl => ?_)
                    refine lv_goto (tgt := 68) hx hb dX4_begin_160 (by decide) ?_
                    exact ih68 (l9 + 1) f4 (by omega) (by omega) (fun i hi => by rw [hp88_1 i hi]; exact begW_18 (by omega)) _ _ _ hSep hS (lv_sub hl [0, 1, 3, 4, 5] rfl)
                  · refine lv_lload_n hx hb dX4_begin_95 rfl (lv_at hl 3 rfl) ?_
                    refine lv_ldc2 (v := 6364136223846793005) hx hb hown (hts _ q1620) dX4_begin_96 ?_
                    refine lv_lmul hx hb dX4_begin_99 ?_
                    refine lv_ldc2 (v := 1442695040888963407) hx hb hown (hts _ q1621) dX4_begin_100 ?_
                    refine lv_ladd hx hb dX4_begin_103 ?_
                    refine n_eql (y := (lcgN x (18 * l9 + (w9 + 1)))) (rfl) ?_
                    refine lv_lstore_n (lv' := [(3, .long (lcgN x (18 * l9 + (w9 + 1)))), (7, .int (nI w9)), (6, .int (nI l9)), (5, .int (orS x l9)), (0, .ref mo), (1, .long x)]) hx hb dX4_begin_104 rfl hl (by decide) rfl (fun ls hl => ?_)
                    refine lv_aload_n hx hb dX4_begin_105 rfl (lv_at hl 4 rfl) ?_
                    refine va_get (D := G.1) (ci := 3) (v := .ref aN) (C := RX4) (T := TX4) (N := 16) hx hb hts in_X4 hown hK (hSep.cel (k := 8) rfl) 0 rfl rfl 3 (by decide) (hts _ q1476) (fun _ h9 => h9) rfl dX4_begin_106 ?_
                    refine lv_bipush (v := (nI 11)) hx hb dX4_begin_109 (by decide) ?_
                    refine lv_iload hx hb dX4_begin_111 (lv_at hl 2 rfl) ?_
                    refine n_iadd hx hb dX4_begin_113 ?_
                    refine lv_dup2_11 hx hb dX4_begin_114 rfl rfl ?_
                    refine n_iald (i := 11 + l9) hx hb hK (hSep.cel (k := 9) rfl) 0 rfl (by omega) (by omega) dX4_begin_115 ?_
                    have L134 : ∀ (v8 : Int32) , (v8 = if lik x l9 w9 then nI 1 <<< (nI w9 &&& 31) else nI 0) → ∀ (H : Heap) (locs : List Loc) (ls : Array Slot), Sep G.1 clA (Fz F s.heap.size) [pts aT (.inl (G.2.1 0, 20, .inl fT)), pts aL (.inl (G.2.1 0, 89, .inl fL)), pts aP (.inl (G.2.1 0, 89, .inl fP)), pts aK (.inl (G.2.1 0, 178, .inl fK)), pts aZ (.inl (G.2.1 2, 2, .inl fZ)), pts aG (.inl (G.2.1 0, 18, .inl fG)), pts aB (.inl (G.2.1 0, 5, .inl fB)), pts aS (.inl (G.2.1 0, 5, .inl fS)), pts mo (.inr (3, [.int (nI 0), .ref aT, .int (nI T.length), .ref aN, .ref aL, .ref aP, .ref aD, .int (nI ((pushH hs g).length)), .ref aK, .ref aZ, .ref aG, .ref aB, .int (nI bl), .int bp, .ref aS, .int (nI tl)])), pts aN (.inl (G.2.1 0, 89, .inl f4)), pts aD (.inl (G.2.1 0, 1246, .inl fD5))] H → va_S (Fz F s.heap.size) s.heap H locs → lv_has ls 8 [(3, .long (lcgN x (18 * l9 + (w9 + 1)))), (7, .int (nI w9)), (6, .int (nI l9)), (5, .int (orS x l9)), (0, .ref mo), (1, .long x)] → W p l e ({ frames := 2, cells := 0, slots := 0, locals := 45 } : Room) s m args below meth c H locs (0) (0) QQ (F0 m 134 ls [.int v8, .int (mkS (lik x l9) w9), .int (nI (11 + l9)), .ref aN]) := by
                      intro v8 hp134_0 H locs ls hSep hS hl
                      refine lv_ior hx hb dX4_begin_134 ?_
                      refine n_iast (i := 11 + l9) (x := ((mkS (lik x l9) w9) ||| v8)) (y := ((mkS (lik x l9) w9) ||| v8)) hx hb hK hSep hS 9 rfl 0 rfl (by omega) (by omega) (rfl) dX4_begin_135 (fun H locs hSep hS => ?_)
                      have hSep : Sep G.1 clA (Fz F s.heap.size) [pts aT (.inl (G.2.1 0, 20, .inl fT)), pts aL (.inl (G.2.1 0, 89, .inl fL)), pts aP (.inl (G.2.1 0, 89, .inl fP)), pts aK (.inl (G.2.1 0, 178, .inl fK)), pts aZ (.inl (G.2.1 2, 2, .inl fZ)), pts aG (.inl (G.2.1 0, 18, .inl fG)), pts aB (.inl (G.2.1 0, 5, .inl fB)), pts aS (.inl (G.2.1 0, 5, .inl fS)), pts mo (.inr (3, [.int (nI 0), .ref aT, .int (nI T.length), .ref aN, .ref aL, .ref aP, .ref aD, .int (nI ((pushH hs g).length)), .ref aK, .ref aZ, .ref aG, .ref aB, .int (nI bl), .int bp, .ref aS, .int (nI tl)])), pts aN (.inl (G.2.1 0, 89, .inl (upd f4 (11 + l9) ((mkS (lik x l9) w9) ||| v8)))), pts aD (.inl (G.2.1 0, 1246, .inl fD5))] H := hSep
                      refine lv_iinc (v := (nI (w9 + 1))) (lv' := [(7, .int (nI (w9 + 1))), (3, .long (lcgN x (18 * l9 + (w9 + 1)))), (6, .int (nI l9)), (5, .int (orS x l9)), (0, .ref mo), (1, .long x)]) hx hb dX4_begin_136 hl (k := 1) rfl (nI_inc w9 1) (by decide) rfl (fun ls hl => ?_)
                      refine lv_goto (tgt := 88) hx hb dX4_begin_139 (by decide) ?_
                      exact ih88 (w9 + 1) (upd f4 (11 + l9) ((mkS (lik x l9) w9) ||| v8)) (by omega) (by omega) (fun i hi => begW_s (hp88_1 i hi) (by rw [hp134_0]; rfl)) _ _ _ hSep hS (lv_sub hl [0, 2, 3, 1, 4, 5] rfl)
                    refine n_eq (y := (mkS (lik x l9) w9)) (by rw [hp88_1 _ (by omega)]; unfold begW; rw [if_neg (by omega), if_pos rfl]) ?_
                    refine lv_lload_n hx hb dX4_begin_116 rfl (lv_at hl 0 rfl) ?_
                    refine lv_bipush (v := (nI 33)) hx hb dX4_begin_117 (by decide) ?_
                    refine lv_lushr hx hb dX4_begin_119 rfl ?_
                    refine lv_l2i hx hb dX4_begin_120 rfl ?_
                    refine lv_iconst (v := (nI 3)) hx hb dX4_begin_121 (by decide) ?_
                    refine lv_irem hx hb dX4_begin_122 (by decide) ?_
                    refine n_eq (y := (rem3 (rnd (lcgN x (18 * l9 + (w9 + 1)))))) (rfl) ?_
                    refine lv_if_ne (tgt := 133) hx hb dX4_begin_123 (by decide) (fun c123 => ?_) (fun c123 => ?_)
                    · refine lv_iconst (v := (nI 0)) hx hb dX4_begin_133 (by decide) ?_
                      exact L134 (nI 0) ((if_neg (fun h => c123 (of_decide_eq_true h))).symm) _ _ _ hSep hS (lv_sub hl [0, 1, 2, 3, 4, 5] rfl)
                    · refine lv_iconst (v := (nI 1)) hx hb dX4_begin_126 (by decide) ?_
                      refine lv_iload hx hb dX4_begin_127 (lv_at hl 1 rfl) ?_
                      refine lv_ishl hx hb dX4_begin_129 ?_
                      refine lv_goto (tgt := 134) hx hb dX4_begin_130 (by decide) ?_
                      exact L134 ((nI 1) <<< ((nI w9) &&& 31)) ((if_pos (decide_eq_true c123)).symm) _ _ _ hSep hS (lv_sub hl [0, 1, 2, 3, 4, 5] rfl)
              exact L88 (18 - 0 + 1) 0 (upd f3 (17 + l9) (nI 1)) (Nat.lt_succ_self _) (Nat.zero_le _) (fun i hi => begW_0 (by omega) (hp68_1 i hi)) _ _ _ hSep hS (lv_sub hl [0, 1, 2, 3, 4, 5] rfl)
        exact L68 (3 - 0 + 1) 0 (upd f2 0 (nI 1)) (Nat.lt_succ_self _) (Nat.zero_le _) (fun i hi => by unfold begF; by_cases e : i = 0; rw [e, upd_s rfl, if_neg (by omega), if_pos rfl]; rw [upd_n e, hp11_1 i hi, if_neg e, if_neg (show ¬ (11 ≤ i ∧ i < 11 + 0) by omega), if_neg (show ¬ (17 ≤ i ∧ i < 17 + 0) by omega)]; split; exact he.num (by omega); rfl) _ _ _ hSep hS (lv_sub hl [0, 1, 2, 3, 4] rfl)
      · have L46 : ∀ (v9 : Int32) , (v9 = if 7 ≤ k ∧ k < 11 then fN k else nI 0) → ∀ (H : Heap) (locs : List Loc) (ls : Array Slot), Sep G.1 clA (Fz F s.heap.size) [pts aT (.inl (G.2.1 0, 20, .inl fT)), pts aL (.inl (G.2.1 0, 89, .inl fL)), pts aP (.inl (G.2.1 0, 89, .inl fP)), pts aK (.inl (G.2.1 0, 178, .inl fK)), pts aZ (.inl (G.2.1 2, 2, .inl fZ)), pts aG (.inl (G.2.1 0, 18, .inl fG)), pts aB (.inl (G.2.1 0, 5, .inl fB)), pts aS (.inl (G.2.1 0, 5, .inl fS)), pts mo (.inr (3, [.int (nI 0), .ref aT, .int (nI T.length), .ref aN, .ref aL, .ref aP, .ref aD, .int (nI ((pushH hs g).length)), .ref aK, .ref aZ, .ref aG, .ref aB, .int (nI bl), .int bp, .ref aS, .int (nI tl)])), pts aN (.inl (G.2.1 0, 89, .inl f2)), pts aD (.inl (G.2.1 0, 1246, .inl fD5))] H → va_S (Fz F s.heap.size) s.heap H locs → lv_has ls 8 [(3, .int (nI k)), (0, .ref mo), (1, .long x)] → W p l e ({ frames := 2, cells := 0, slots := 0, locals := 45 } : Room) s m args below meth c H locs (0) (0) QQ (F0 m 46 ls [.int v9, .int (nI k), .ref aN]) := by
          intro v9 hp46_0 H locs ls hSep hS hl
          refine n_iast (i := k) (x := v9) (y := v9) hx hb hK hSep hS 9 rfl 0 rfl (by omega) (by omega) (rfl) dX4_begin_46 (fun H locs hSep hS => ?_)
          have hSep : Sep G.1 clA (Fz F s.heap.size) [pts aT (.inl (G.2.1 0, 20, .inl fT)), pts aL (.inl (G.2.1 0, 89, .inl fL)), pts aP (.inl (G.2.1 0, 89, .inl fP)), pts aK (.inl (G.2.1 0, 178, .inl fK)), pts aZ (.inl (G.2.1 2, 2, .inl fZ)), pts aG (.inl (G.2.1 0, 18, .inl fG)), pts aB (.inl (G.2.1 0, 5, .inl fB)), pts aS (.inl (G.2.1 0, 5, .inl fS)), pts mo (.inr (3, [.int (nI 0), .ref aT, .int (nI T.length), .ref aN, .ref aL, .ref aP, .ref aD, .int (nI ((pushH hs g).length)), .ref aK, .ref aZ, .ref aG, .ref aB, .int (nI bl), .int bp, .ref aS, .int (nI tl)])), pts aN (.inl (G.2.1 0, 89, .inl (upd f2 k v9))), pts aD (.inl (G.2.1 0, 1246, .inl fD5))] H := hSep
          refine lv_iinc (v := (nI (k + 1))) (lv' := [(3, .int (nI (k + 1))), (0, .ref mo), (1, .long x)]) hx hb dX4_begin_47 hl (k := 0) rfl (nI_inc k 1) (by decide) rfl (fun ls hl => ?_)
          refine lv_goto (tgt := 11) hx hb dX4_begin_50 (by decide) ?_
          exact ih11 (k + 1) (upd f2 k v9) (by omega) (by omega) (fun i h => by unfold upd; split; rename_i e9; rw [e9]; exact hp46_0; exact hp11_1 i (by omega)) (fun i h => by rw [upd_n (by omega)]; exact hp11_2 i (by omega)) _ _ _ hSep hS (lv_sub hl [0, 1, 2] rfl)
        refine lv_aload_n hx hb dX4_begin_17 rfl (lv_at hl 1 rfl) ?_
        refine va_get (D := G.1) (ci := 3) (v := .ref aN) (C := RX4) (T := TX4) (N := 16) hx hb hts in_X4 hown hK (hSep.cel (k := 8) rfl) 0 rfl rfl 3 (by decide) (hts _ q1476) (fun _ h9 => h9) rfl dX4_begin_18 ?_
        refine lv_iload_n hx hb dX4_begin_21 rfl (lv_at hl 0 rfl) ?_
        refine lv_iload_n hx hb dX4_begin_22 rfl (lv_at hl 0 rfl) ?_
        refine lv_i2l hx hb dX4_begin_23 rfl ?_
        refine lv_ldc2 (v := 7) hx hb hown (hts _ q1563) dX4_begin_24 ?_
        refine lv_ldc2 (v := 10) hx hb hown (hts _ q1619) dX4_begin_27 ?_
        have hFk_4 : ∀ q, Fz (fun _ => False) H.size q → (Fz F s.heap.size) q := fun q h => by rcases h with h | h; exact h.elim; exact Fz.new (Nat.le_trans hS.1 h)
        have hPk_4 : Sep G.1 clA (Fz (fun _ => False) H.size) [] H := sp_nil
        have hJk_4 := sp_nilJ (F := (fun _ => False)) hSep (fun _ => id) hFk_4
        refine c_i (va_runS (As := [.long ((nI k).toInt64), .long (7 : Int64), .long (10 : Int64)]) (rest := [.int (nI k), .ref aN]) ⟨hx, hb, hml, hown, hts⟩ (m_X4_in l G H.size ((nI k).toInt64) (7 : Int64) (10 : Int64) ) (va_cwS 3 hts (lw_S q1532 q1533 q44 q1534) rfl rfl rfl (by decide +kernel) ⟨Nat.le_of_ble_eq_true rfl, Nat.le_of_ble_eq_true rfl⟩) (sp_preS hE hS hFk_4 hPk_4 trivial) rfl rfl hl.1 rfl (lv_room (Nat.le_of_ble_eq_true rfl)) dX4_begin_30 ⟨by first | exact Nat.le_of_ble_eq_true rfl | omega | (dsimp only; omega), by first | exact Nat.le_of_ble_eq_true rfl | omega | (dsimp only; omega)⟩) hS hFk_4 hJk_4 (fun r_5 u_6 H locs hpk_4 hSep hS hzk_4 => ?_)
        obtain rfl : r_5 = (bI (inR ((nI k).toInt64).toInt (7 : Int64).toInt (10 : Int64).toInt)) := hpk_4
        refine W.cs (cells' := 0) (slots' := 0) rfl rfl ?_
        have hSep : Sep G.1 clA (Fz F s.heap.size) [pts aT (.inl (G.2.1 0, 20, .inl fT)), pts aL (.inl (G.2.1 0, 89, .inl fL)), pts aP (.inl (G.2.1 0, 89, .inl fP)), pts aK (.inl (G.2.1 0, 178, .inl fK)), pts aZ (.inl (G.2.1 2, 2, .inl fZ)), pts aG (.inl (G.2.1 0, 18, .inl fG)), pts aB (.inl (G.2.1 0, 5, .inl fB)), pts aS (.inl (G.2.1 0, 5, .inl fS)), pts mo (.inr (3, [.int (nI 0), .ref aT, .int (nI T.length), .ref aN, .ref aL, .ref aP, .ref aD, .int (nI ((pushH hs g).length)), .ref aK, .ref aZ, .ref aG, .ref aB, .int (nI bl), .int bp, .ref aS, .int (nI tl)])), pts aN (.inl (G.2.1 0, 89, .inl f2)), pts aD (.inl (G.2.1 0, 1246, .inl fD5))] H := hSep
        refine n_eq (y := (bI (decide (7 ≤ k ∧ k < 11)))) (congrArg bI (by rw [nI_l (by omega), pk_lT (by omega)]; unfold inR; apply decide_eq_decide.mpr; have e7 : (7 : Int64).toInt = 7 := rfl; have e10 : (10 : Int64).toInt = 10 := rfl; rw [e7, e10]; omega)) ?_
        refine b_if_eq (tgt := 45) hx hb dX4_begin_33 (by decide) (fun c33 => ?_) (fun c33 => ?_)
        · refine lv_iconst (v := (nI 0)) hx hb dX4_begin_45 (by decide) ?_
          exact L46 (nI 0) ((if_neg (of_decide_eq_false c33)).symm) _ _ _ hSep hS (lv_sub hl [0, 1, 2] rfl)
        · refine lv_aload_n hx hb dX4_begin_36 rfl (lv_at hl 1 rfl) ?_
          refine va_get (D := G.1) (ci := 3) (v := .ref aN) (C := RX4) (T := TX4) (N := 16) hx hb hts in_X4 hown hK (hSep.cel (k := 8) rfl) 0 rfl rfl 3 (by decide) (hts _ q1476) (fun _ h9 => h9) rfl dX4_begin_37 ?_
          refine lv_iload_n hx hb dX4_begin_40 rfl (lv_at hl 0 rfl) ?_
          refine n_iald (i := k) hx hb hK (hSep.cel (k := 9) rfl) 0 rfl (by omega) (by omega) dX4_begin_41 ?_
          refine lv_goto (tgt := 46) hx hb dX4_begin_42 (by decide) ?_
          exact L46 (f2 k) (by rw [if_pos (of_decide_eq_true c33)]; exact hp11_2 k (Nat.le_refl _)) _ _ _ hSep hS (lv_sub hl [0, 1, 2] rfl)
  exact L11 (89 - 0 + 1) 0 fN (Nat.lt_succ_self _) (Nat.zero_le _) (fun i h => absurd h (Nat.not_lt_zero _)) (fun i h => rfl) _ _ _ hSep hS (lv_sub hl [0, 1, 2] rfl)

set_option maxHeartbeats 600000 in
set_option maxRecDepth 100000 in
theorem m_X4_best (l : Launch) (G : EVT) (F : Nat → Prop) (sz : Nat) (mo : Nat) (rf : Int32) (σ : MS) (t : Int32) (x : Int32)  : Met l yX4_best (ws_ yX4_best cX4_best 3 (some .int)) ({ frames := 4, cells := 0, slots := 0, locals := 111 } : Room) (SPc G F sz [.ref mo, .int t, .int x] [modA G mo rf σ] (fun _ => True)) (SQi G F sz (fun (r : Int32) (u : Unit) => (oBest σ t x).1 = 0 → r = (oBest σ t x).2.1) (fun (u : Unit) => [modA G mo (nI (oBest σ t x).1) (oBest σ t x).2.2])) (0) (0) (Fz F sz) := by
  refine sp_of RX4 (by decide) rfl (Nat.le_of_ble_eq_true rfl) ?_
  intro p e s m args below meth c ls QQ hx hb hr hts hown hlocks hml hnm hsz hSep hΦ hE hS hl hQ
  subst hsz
  have hK := hE.1
  have hl : lv_has ls 3 [(0, .ref mo), (1, .int t), (2, .int x)] := hl
  obtain ⟨g, hs, kp, T⟩ := σ
  obtain ⟨aT, aN, aL, aP, aD, aK, aZ, aG, aB, aS, bl, bp, tl, fT, fN, fL, fP, fD, fK, fZ, fG, fB, fS, hC, hSep⟩ := mod_unpk hSep
  have hg : gV g := hC.1.1
  have ho : gOk g := hC.1.1.1
  have he : Enc fN g := hC.1.2
  have hT : Pre fT T := hC.2.2.2.1
  have hT20 : T.length ≤ 20 := hC.2.2.2.2.1
  have hT256 : ∀ w ∈ T, w < 256 := hC.2.2.2.2.2
  have hD14 : hs.length ≤ 14 := hC.2.1.1
  have L29 : ∀ (x9 : Nat) , ((x9 ≠ 0 ∧ oBest (g, hs, kp, T) t x = (x9, 0, (g, hs, kp, T))) ∨ (x9 = 0 ∧ (inR t.toInt 0 1 = true ∧ inR x.toInt 0 6 = true))) → (x9 < 3) → ∀ (H : Heap) (locs : List Loc) (ls : Array Slot), Sep G.1 clA (Fz F s.heap.size) [pts mo (.inr (3, [.int rf, .ref aT, .int (nI T.length), .ref aN, .ref aL, .ref aP, .ref aD, .int (nI hs.length), .ref aK, .ref aZ, .ref aG, .ref aB, .int (nI bl), .int bp, .ref aS, .int (nI tl)])), pts aT (.inl (G.2.1 0, 20, .inl fT)), pts aN (.inl (G.2.1 0, 89, .inl fN)), pts aL (.inl (G.2.1 0, 89, .inl fL)), pts aP (.inl (G.2.1 0, 89, .inl fP)), pts aD (.inl (G.2.1 0, 1246, .inl fD)), pts aK (.inl (G.2.1 0, 178, .inl fK)), pts aZ (.inl (G.2.1 2, 2, .inl fZ)), pts aG (.inl (G.2.1 0, 18, .inl fG)), pts aB (.inl (G.2.1 0, 5, .inl fB)), pts aS (.inl (G.2.1 0, 5, .inl fS))] H → va_S (Fz F s.heap.size) s.heap H locs → lv_has ls 3 [(0, .ref mo), (1, .int t), (2, .int x)] → W p l e ({ frames := 4, cells := 0, slots := 0, locals := 111 } : Room) s m args below meth c H locs (0) (0) QQ (F0 m 29 ls [.int (nI x9), .ref mo]) := by
    intro x9 hrf hx9 H locs ls hSep hS hl
    obtain ⟨Fk_1, hFk_1, hPk_1, hJk_1⟩ := hSep.cut (Pc := [pts mo (.inr (3, [.int rf, .ref aT, .int (nI T.length), .ref aN, .ref aL, .ref aP, .ref aD, .int (nI hs.length), .ref aK, .ref aZ, .ref aG, .ref aB, .int (nI bl), .int bp, .ref aS, .int (nI tl)]))]) (Pr := [pts aT (.inl (G.2.1 0, 20, .inl fT)), pts aN (.inl (G.2.1 0, 89, .inl fN)), pts aL (.inl (G.2.1 0, 89, .inl fL)), pts aP (.inl (G.2.1 0, 89, .inl fP)), pts aD (.inl (G.2.1 0, 1246, .inl fD)), pts aK (.inl (G.2.1 0, 178, .inl fK)), pts aZ (.inl (G.2.1 2, 2, .inl fZ)), pts aG (.inl (G.2.1 0, 18, .inl fG)), pts aB (.inl (G.2.1 0, 5, .inl fB)), pts aS (.inl (G.2.1 0, 5, .inl fS))]) (fun q h => Fz.new (Nat.le_trans hS.1 h)) [0] [1, 2, 3, 4, 5, 6, 7, 8, 9, 10] rfl rfl rfl rfl (by decide)
    refine c_i (va_runV (As := [.int (nI x9)]) (rest := []) ⟨hx, hb, hml, hown, hts⟩ (m_X4_refused l G Fk_1 H.size mo rf aT T.length aN aL aP aD hs.length aK aZ aG aB bl bp aS tl x9 (by omega)) (cwV 1 hts (lw_V q1535 q1537 qs21 q44 q1538) rfl rfl rfl (by decide +kernel) ⟨Nat.le_of_ble_eq_true rfl, Nat.le_of_ble_eq_true rfl⟩) (sp_preV hE hS hFk_1 hPk_1 trivial (sp_recv (ci := 3) hK (hSep.cel (k := 0) rfl) rfl)) rfl rfl hl.1 rfl (lv_room (Nat.le_of_ble_eq_true rfl)) dX4_best_29 ⟨by first | exact Nat.le_of_ble_eq_true rfl | omega | (dsimp only; omega), by first | exact Nat.le_of_ble_eq_true rfl | omega | (dsimp only; omega)⟩) hS hFk_1 hJk_1 (fun r_2 u_3 H locs hpk_1 hSep hS hzk_1 => ?_)
    obtain rfl : r_2 = (bI (decide (0 < x9))) := hpk_1
    refine W.cs (cells' := 0) (slots' := 0) rfl rfl ?_
    have hSep : Sep G.1 clA (Fz F s.heap.size) [pts aT (.inl (G.2.1 0, 20, .inl fT)), pts aN (.inl (G.2.1 0, 89, .inl fN)), pts aL (.inl (G.2.1 0, 89, .inl fL)), pts aP (.inl (G.2.1 0, 89, .inl fP)), pts aD (.inl (G.2.1 0, 1246, .inl fD)), pts aK (.inl (G.2.1 0, 178, .inl fK)), pts aZ (.inl (G.2.1 2, 2, .inl fZ)), pts aG (.inl (G.2.1 0, 18, .inl fG)), pts aB (.inl (G.2.1 0, 5, .inl fB)), pts aS (.inl (G.2.1 0, 5, .inl fS)), pts mo (.inr (3, [.int (nI x9), .ref aT, .int (nI T.length), .ref aN, .ref aL, .ref aP, .ref aD, .int (nI hs.length), .ref aK, .ref aZ, .ref aG, .ref aB, .int (nI bl), .int bp, .ref aS, .int (nI tl)]))] H := hSep
    refine b_if_eq (tgt := 37) hx hb dX4_best_32 (by decide) (fun c32 => ?_) (fun c32 => ?_)
    · obtain ⟨hx0, hgd⟩ := hrf.resolve_left (fun h => h.1 (by have := of_decide_eq_false c32; omega))
      subst hx0
      obtain ⟨t9, ht91, ht92, rfl⟩ := inR_n (n := 1) hgd.1
      obtain ⟨n9, hn91, hn92, rfl⟩ := inR_n (n := 6) hgd.2
      refine lv_aload_n hx hb dX4_best_37 rfl (lv_at hl 0 rfl) ?_
      refine va_get (D := G.1) (ci := 3) (v := .ref aN) (C := RX4) (T := TX4) (N := 16) hx hb hts in_X4 hown hK (hSep.cel (k := 10) rfl) 0 rfl rfl 3 (by decide) (hts _ q1476) (fun _ h9 => h9) rfl dX4_best_38 ?_
      refine lv_iconst (v := (nI 0)) hx hb dX4_best_41 (by decide) ?_
      refine n_iald (i := 0) hx hb hK (hSep.cel (k := 1) rfl) 0 rfl (by omega) (by omega) dX4_best_42 ?_
      refine n_eq (y := (g.1 0)) (he.num (by decide)) ?_
      refine lv_if_eq (tgt := 59) hx hb dX4_best_43 (by decide) (fun c43 => ?_) (fun c43 => ?_)
      · refine lv_iconst (v := (-1)) hx hb dX4_best_59 (by decide) ?_
        have hop : oBest (g, hs, kp, T) (nI t9) (nI n9) = (0, -1, g, hs, kp, T) := by unfold oBest; rw [if_neg (by rw [hgd.1]; decide), if_neg (by rw [hgd.2]; decide)]; refine congrArg (fun v => (0, v, _)) ?_; show bstA g (nI t9).toInt.toNat (nI n9) = _; rw [nI_toInt ht92, Int.toNat_natCast]; unfold bstA; first | exact if_pos (Or.inl (show g.1 0 = nI 0 from c43)) | (rw [show gBst g t9 = (P2, b2) from hbs]; exact if_pos (Or.inr hP0))
        rw [hQ]
        exact r_i (r := (-1)) (u := ()) hx hb hr (by rw [hop]; exact fun _ => rfl) (by rw [hop]; exact mod_close (hSep.pick [10, 0, 1, 2, 3, 4, 5, 6, 7, 8, 9] rfl rfl) rfl rfl rfl hC) hS (by first | exact Nat.le_of_ble_eq_true rfl | omega | (dsimp only; omega)) (by first | exact Nat.le_of_ble_eq_true rfl | omega | (dsimp only; omega)) dX4_best_60 hlocks
      · refine lv_aload_n hx hb dX4_best_46 rfl (lv_at hl 0 rfl) ?_
        refine lv_aload_n hx hb dX4_best_47 rfl (lv_at hl 0 rfl) ?_
        refine va_get (D := G.1) (ci := 3) (v := .ref aN) (C := RX4) (T := TX4) (N := 16) hx hb hts in_X4 hown hK (hSep.cel (k := 10) rfl) 0 rfl rfl 3 (by decide) (hts _ q1476) (fun _ h9 => h9) rfl dX4_best_48 ?_
        refine lv_iload_n hx hb dX4_best_51 rfl (lv_at hl 1 rfl) ?_
        obtain ⟨Fk_4, hFk_4, hPk_4, hJk_4⟩ := hSep.cut (Pc := [pts mo (.inr (3, [.int (nI 0), .ref aT, .int (nI T.length), .ref aN, .ref aL, .ref aP, .ref aD, .int (nI hs.length), .ref aK, .ref aZ, .ref aG, .ref aB, .int (nI bl), .int bp, .ref aS, .int (nI tl)])), pts aN (.inl (G.2.1 0, 89, .inl fN)), pts aS (.inl (G.2.1 0, 5, .inl fS)), pts aG (.inl (G.2.1 0, 18, .inl fG)), pts aB (.inl (G.2.1 0, 5, .inl fB))]) (Pr := [pts aT (.inl (G.2.1 0, 20, .inl fT)), pts aL (.inl (G.2.1 0, 89, .inl fL)), pts aP (.inl (G.2.1 0, 89, .inl fP)), pts aD (.inl (G.2.1 0, 1246, .inl fD)), pts aK (.inl (G.2.1 0, 178, .inl fK)), pts aZ (.inl (G.2.1 2, 2, .inl fZ))]) (fun q h => Fz.new (Nat.le_trans hS.1 h)) [10, 1, 9, 7, 8] [0, 2, 3, 4, 5, 6] rfl rfl rfl rfl (by decide)
        refine c_i (va_runV (As := [.ref aN, .int (nI t9)]) (rest := []) ⟨hx, hb, hml, hown, hts⟩ (m_X4_bestOf l G Fk_4 H.size mo (nI 0) aT T.length aN aL aP aD hs.length aK aZ aG aB bl bp aS tl aN fN g t9 fS fB fG (he) (by first | assumption | omega) (by omega)) (cwV 2 hts (lw_V q1682 q1684 qs30 q44 q1685) rfl rfl rfl (by decide +kernel) ⟨Nat.le_of_ble_eq_true rfl, Nat.le_of_ble_eq_true rfl⟩) (sp_preV hE hS hFk_4 hPk_4 trivial (sp_recv (ci := 3) hK (hSep.cel (k := 10) rfl) rfl)) rfl rfl hl.1 rfl (lv_room (Nat.le_of_ble_eq_true rfl)) dX4_best_52 ⟨by first | exact Nat.le_of_ble_eq_true rfl | omega | (dsimp only; omega), by first | exact Nat.le_of_ble_eq_true rfl | omega | (dsimp only; omega)⟩) hS hFk_4 hJk_4 (fun r_5 u_6 H locs hpk_4 hSep hS hzk_4 => ?_)
        obtain ⟨P2, b2, fS5, fB5, tl5, fG5⟩ := u_6
        obtain ⟨rfl, hpk_4⟩ : r_5 = (ptI P2) ∧ BestOn (smS (gain g)) (okS (bnG g t9)) P2 b2 ∧ Pre fB5 b2 := hpk_4
        refine W.cs (cells' := 0) (slots' := 0) rfl rfl ?_
        have hSep : Sep G.1 clA (Fz F s.heap.size) [pts aT (.inl (G.2.1 0, 20, .inl fT)), pts aL (.inl (G.2.1 0, 89, .inl fL)), pts aP (.inl (G.2.1 0, 89, .inl fP)), pts aD (.inl (G.2.1 0, 1246, .inl fD)), pts aK (.inl (G.2.1 0, 178, .inl fK)), pts aZ (.inl (G.2.1 2, 2, .inl fZ)), pts mo (.inr (3, [.int (nI 0), .ref aT, .int (nI T.length), .ref aN, .ref aL, .ref aP, .ref aD, .int (nI hs.length), .ref aK, .ref aZ, .ref aG, .ref aB, .int (nI b2.length), .int (ptI P2), .ref aS, .int (nI tl5)])), pts aN (.inl (G.2.1 0, 89, .inl fN)), pts aS (.inl (G.2.1 0, 5, .inl fS5)), pts aG (.inl (G.2.1 0, 18, .inl fG5)), pts aB (.inl (G.2.1 0, 5, .inl fB5))] H := hSep
        have hF := hpk_4
        have hbs := bst_eq hF.1
        have hi9 := hF.1.info (fun s h => h) (gain_le _)
        refine lv_iconst (v := (-1)) hx hb dX4_best_55 (by decide) ?_
        refine lv_icmp_ne (tgt := 61) hx hb dX4_best_56 (by decide) (fun c56 => ?_) (fun c56 => ?_)
        · have hP0 : ¬ P2 = 0 := fun h => c56 (by rw [h]; rfl)
          refine lv_iload_n hx hb dX4_best_61 rfl (lv_at hl 2 rfl) ?_
          refine n_if_ne (tgt := 72) hx hb (by omega) dX4_best_62 (by decide) (fun c62 => ?_) (fun c62 => ?_)
          · refine lv_iload_n hx hb dX4_best_72 rfl (lv_at hl 2 rfl) ?_
            refine lv_iconst (v := (nI 1)) hx hb dX4_best_73 (by decide) ?_
            refine n_icmp_ne (tgt := 84) hx hb (by omega) (by omega) dX4_best_74 (by decide) (fun c74 => ?_) (fun c74 => ?_)
            · refine lv_iload_n hx hb dX4_best_84 rfl (lv_at hl 2 rfl) ?_
              refine lv_iconst (v := (nI 2)) hx hb dX4_best_85 (by decide) ?_
              refine n_isub hx hb (by omega) dX4_best_86 ?_
              refine lv_aload_n hx hb dX4_best_87 rfl (lv_at hl 0 rfl) ?_
              refine va_get (D := G.1) (ci := 3) (v := .int (nI b2.length)) (C := RX4) (T := TX4) (N := 16) hx hb hts in_X4 hown hK (hSep.cel (k := 6) rfl) 0 rfl rfl 12 (by decide) (hts _ q1485) (fun _ h9 => h9) rfl dX4_best_88 ?_
              refine n_icmp_ge (tgt := 105) hx hb (by have := hi9.2.1; omega) (by have := hi9.2.1; omega) dX4_best_91 (by decide) (fun c91 => ?_) (fun c91 => ?_)
              · refine lv_iconst (v := (-1)) hx hb dX4_best_105 (by decide) ?_
                have hop : oBest (g, hs, kp, T) (nI t9) (nI n9) = (0, (-1), g, hs, kp, T) := by unfold oBest; rw [if_neg (by rw [hgd.1]; decide), if_neg (by rw [hgd.2]; decide)]; refine congrArg (fun v => (0, v, _)) ?_; show bstA g (nI t9).toInt.toNat (nI n9) = _; rw [nI_toInt ht92, Int.toNat_natCast]; unfold bstA; rw [show gBst g t9 = (P2, b2) from hbs, if_neg (fun h => h.elim c43 hP0)]; dsimp only; rw [if_neg (fun h => c62 (nI_inj (by omega) (by decide) h)), if_neg (fun h => c74 (nI_inj (by omega) (by decide) h)), nI_toInt hn92, Int.toNat_natCast, if_neg (show ¬ n9 - 2 < b2.length by omega)]
                rw [hQ]
                exact r_i (r := (-1)) (u := ()) hx hb hr (by rw [hop]; exact fun _ => rfl) (by rw [hop]; exact mod_close (hSep.pick [6, 0, 7, 1, 2, 3, 4, 5, 9, 10, 8] rfl rfl) rfl rfl rfl hC) hS (by first | exact Nat.le_of_ble_eq_true rfl | omega | (dsimp only; omega)) (by first | exact Nat.le_of_ble_eq_true rfl | omega | (dsimp only; omega)) dX4_best_106 hlocks
              · refine lv_aload_n hx hb dX4_best_94 rfl (lv_at hl 0 rfl) ?_
                refine va_get (D := G.1) (ci := 3) (v := .ref aB) (C := RX4) (T := TX4) (N := 16) hx hb hts in_X4 hown hK (hSep.cel (k := 6) rfl) 0 rfl rfl 11 (by decide) (hts _ q1484) (fun _ h9 => h9) rfl dX4_best_95 ?_
                refine lv_iload_n hx hb dX4_best_98 rfl (lv_at hl 2 rfl) ?_
                refine lv_iconst (v := (nI 2)) hx hb dX4_best_99 (by decide) ?_
                refine n_isub hx hb (by omega) dX4_best_100 ?_
                refine n_iald (i := n9 - 2) hx hb hK (hSep.cel (k := 10) rfl) 0 rfl (by omega) (by omega) dX4_best_101 ?_
                refine n_eq (y := (nI (b2.getD (n9 - 2) 0))) (hF.2 _ (by omega)) ?_
                refine lv_goto (tgt := 106) hx hb dX4_best_102 (by decide) ?_
                have hop : oBest (g, hs, kp, T) (nI t9) (nI n9) = (0, (nI (b2.getD (n9 - 2) 0)), g, hs, kp, T) := by unfold oBest; rw [if_neg (by rw [hgd.1]; decide), if_neg (by rw [hgd.2]; decide)]; refine congrArg (fun v => (0, v, _)) ?_; show bstA g (nI t9).toInt.toNat (nI n9) = _; rw [nI_toInt ht92, Int.toNat_natCast]; unfold bstA; rw [show gBst g t9 = (P2, b2) from hbs, if_neg (fun h => h.elim c43 hP0)]; dsimp only; rw [if_neg (fun h => c62 (nI_inj (by omega) (by decide) h)), if_neg (fun h => c74 (nI_inj (by omega) (by decide) h)), nI_toInt hn92, Int.toNat_natCast, if_pos (show n9 - 2 < b2.length by omega)]
                rw [hQ]
                exact r_i (r := (nI (b2.getD (n9 - 2) 0))) (u := ()) hx hb hr (by rw [hop]; exact fun _ => rfl) (by rw [hop]; exact mod_close (hSep.pick [6, 0, 7, 1, 2, 3, 4, 5, 9, 10, 8] rfl rfl) rfl rfl rfl hC) hS (by first | exact Nat.le_of_ble_eq_true rfl | omega | (dsimp only; omega)) (by first | exact Nat.le_of_ble_eq_true rfl | omega | (dsimp only; omega)) dX4_best_106 hlocks
            · refine lv_aload_n hx hb dX4_best_77 rfl (lv_at hl 0 rfl) ?_
              refine va_get (D := G.1) (ci := 3) (v := .int (nI b2.length)) (C := RX4) (T := TX4) (N := 16) hx hb hts in_X4 hown hK (hSep.cel (k := 6) rfl) 0 rfl rfl 12 (by decide) (hts _ q1485) (fun _ h9 => h9) rfl dX4_best_78 ?_
              refine lv_goto (tgt := 106) hx hb dX4_best_81 (by decide) ?_
              have hop : oBest (g, hs, kp, T) (nI t9) (nI n9) = (0, (nI b2.length), g, hs, kp, T) := by unfold oBest; rw [if_neg (by rw [hgd.1]; decide), if_neg (by rw [hgd.2]; decide)]; refine congrArg (fun v => (0, v, _)) ?_; show bstA g (nI t9).toInt.toNat (nI n9) = _; rw [nI_toInt ht92, Int.toNat_natCast]; unfold bstA; rw [show gBst g t9 = (P2, b2) from hbs, if_neg (fun h => h.elim c43 hP0)]; dsimp only; rw [if_neg (fun h => c62 (nI_inj (by omega) (by decide) h)), if_pos (show nI n9 = nI 1 by rw [show n9 = 1 from c74])]
              rw [hQ]
              exact r_i (r := (nI b2.length)) (u := ()) hx hb hr (by rw [hop]; exact fun _ => rfl) (by rw [hop]; exact mod_close (hSep.pick [6, 0, 7, 1, 2, 3, 4, 5, 9, 10, 8] rfl rfl) rfl rfl rfl hC) hS (by first | exact Nat.le_of_ble_eq_true rfl | omega | (dsimp only; omega)) (by first | exact Nat.le_of_ble_eq_true rfl | omega | (dsimp only; omega)) dX4_best_106 hlocks
          · refine lv_aload_n hx hb dX4_best_65 rfl (lv_at hl 0 rfl) ?_
            refine va_get (D := G.1) (ci := 3) (v := .int (ptI P2)) (C := RX4) (T := TX4) (N := 16) hx hb hts in_X4 hown hK (hSep.cel (k := 6) rfl) 0 rfl rfl 13 (by decide) (hts _ q1486) (fun _ h9 => h9) rfl dX4_best_66 ?_
            refine lv_goto (tgt := 106) hx hb dX4_best_69 (by decide) ?_
            have hop : oBest (g, hs, kp, T) (nI t9) (nI n9) = (0, (ptI P2), g, hs, kp, T) := by unfold oBest; rw [if_neg (by rw [hgd.1]; decide), if_neg (by rw [hgd.2]; decide)]; refine congrArg (fun v => (0, v, _)) ?_; show bstA g (nI t9).toInt.toNat (nI n9) = _; rw [nI_toInt ht92, Int.toNat_natCast]; unfold bstA; rw [show gBst g t9 = (P2, b2) from hbs, if_neg (fun h => h.elim c43 hP0)]; dsimp only; rw [if_pos (show nI n9 = nI 0 by rw [show n9 = 0 from c62])]
            rw [hQ]
            exact r_i (r := (ptI P2)) (u := ()) hx hb hr (by rw [hop]; exact fun _ => rfl) (by rw [hop]; exact mod_close (hSep.pick [6, 0, 7, 1, 2, 3, 4, 5, 9, 10, 8] rfl rfl) rfl rfl rfl hC) hS (by first | exact Nat.le_of_ble_eq_true rfl | omega | (dsimp only; omega)) (by first | exact Nat.le_of_ble_eq_true rfl | omega | (dsimp only; omega)) dX4_best_106 hlocks
        · have hP0 : P2 = 0 := (ptI_m (by omega)).mp c56
          refine lv_iconst (v := (-1)) hx hb dX4_best_59 (by decide) ?_
          have hop : oBest (g, hs, kp, T) (nI t9) (nI n9) = (0, -1, g, hs, kp, T) := by unfold oBest; rw [if_neg (by rw [hgd.1]; decide), if_neg (by rw [hgd.2]; decide)]; refine congrArg (fun v => (0, v, _)) ?_; show bstA g (nI t9).toInt.toNat (nI n9) = _; rw [nI_toInt ht92, Int.toNat_natCast]; unfold bstA; first | exact if_pos (Or.inl (show g.1 0 = nI 0 from c43)) | (rw [show gBst g t9 = (P2, b2) from hbs]; exact if_pos (Or.inr hP0))
          rw [hQ]
          exact r_i (r := (-1)) (u := ()) hx hb hr (by rw [hop]; exact fun _ => rfl) (by rw [hop]; exact mod_close (hSep.pick [6, 0, 7, 1, 2, 3, 4, 5, 9, 10, 8] rfl rfl) rfl rfl rfl hC) hS (by first | exact Nat.le_of_ble_eq_true rfl | omega | (dsimp only; omega)) (by first | exact Nat.le_of_ble_eq_true rfl | omega | (dsimp only; omega)) dX4_best_60 hlocks
    · obtain ⟨hx1, hop⟩ := hrf.resolve_right (fun h => absurd (of_decide_eq_true c32) (by rw [h.1]; decide))
      refine lv_iconst (v := (nI 0)) hx hb dX4_best_35 (by decide) ?_
      rw [hQ]
      exact r_i (r := (nI 0)) (u := ()) hx hb hr (by rw [hop]; exact fun h => absurd h hx1) (by rw [hop]; exact mod_close (hSep.pick [10, 0, 1, 2, 3, 4, 5, 6, 7, 8, 9] rfl rfl) rfl rfl rfl hC) hS (by first | exact Nat.le_of_ble_eq_true rfl | omega | (dsimp only; omega)) (by first | exact Nat.le_of_ble_eq_true rfl | omega | (dsimp only; omega)) dX4_best_36 hlocks
  refine lv_aload_n hx hb dX4_best_0 rfl (lv_at hl 0 rfl) ?_
  refine lv_iload_n hx hb dX4_best_1 rfl (lv_at hl 1 rfl) ?_
  have hFk_7 : ∀ q, Fz (fun _ => False) s.heap.size q → (Fz F s.heap.size) q := fun q h => by rcases h with h | h; exact h.elim; exact Fz.new (Nat.le_trans hS.1 h)
  have hPk_7 : Sep G.1 clA (Fz (fun _ => False) s.heap.size) [] s.heap := sp_nil
  have hJk_7 := sp_nilJ (F := (fun _ => False)) hSep (fun _ => id) hFk_7
  refine c_i (va_runS (As := [.int t]) (rest := [.ref mo]) ⟨hx, hb, hml, hown, hts⟩ (m_X4_isTeller l G s.heap.size t ) (va_cwS 1 hts (lw_S q1577 q1578 q44 q1579) rfl rfl rfl (by decide +kernel) ⟨Nat.le_of_ble_eq_true rfl, Nat.le_of_ble_eq_true rfl⟩) (sp_preS hE hS hFk_7 hPk_7 trivial) rfl rfl hl.1 rfl (lv_room (Nat.le_of_ble_eq_true rfl)) dX4_best_2 ⟨by first | exact Nat.le_of_ble_eq_true rfl | omega | (dsimp only; omega), by first | exact Nat.le_of_ble_eq_true rfl | omega | (dsimp only; omega)⟩) hS hFk_7 hJk_7 (fun r_8 u_9 H locs hpk_7 hSep hS hzk_7 => ?_)
  obtain rfl : r_8 = (bI (inR t.toInt 0 1)) := hpk_7
  refine W.cs (cells' := 0) (slots' := 0) rfl rfl ?_
  have hSep : Sep G.1 clA (Fz F s.heap.size) [pts mo (.inr (3, [.int rf, .ref aT, .int (nI T.length), .ref aN, .ref aL, .ref aP, .ref aD, .int (nI hs.length), .ref aK, .ref aZ, .ref aG, .ref aB, .int (nI bl), .int bp, .ref aS, .int (nI tl)])), pts aT (.inl (G.2.1 0, 20, .inl fT)), pts aN (.inl (G.2.1 0, 89, .inl fN)), pts aL (.inl (G.2.1 0, 89, .inl fL)), pts aP (.inl (G.2.1 0, 89, .inl fP)), pts aD (.inl (G.2.1 0, 1246, .inl fD)), pts aK (.inl (G.2.1 0, 178, .inl fK)), pts aZ (.inl (G.2.1 2, 2, .inl fZ)), pts aG (.inl (G.2.1 0, 18, .inl fG)), pts aB (.inl (G.2.1 0, 5, .inl fB)), pts aS (.inl (G.2.1 0, 5, .inl fS))] H := hSep
  refine b_if_ne (tgt := 12) hx hb dX4_best_5 (by decide) (fun c5 => ?_) (fun c5 => ?_)
  · refine lv_iload_n hx hb dX4_best_12 rfl (lv_at hl 2 rfl) ?_
    refine lv_i2l hx hb dX4_best_13 rfl ?_
    refine lv_lconst (v := 0) hx hb dX4_best_14 (by decide) ?_
    refine lv_ldc2 (v := 6) hx hb hown (hts _ q1714) dX4_best_15 ?_
    have hFk_10 : ∀ q, Fz (fun _ => False) H.size q → (Fz F s.heap.size) q := fun q h => by rcases h with h | h; exact h.elim; exact Fz.new (Nat.le_trans hS.1 h)
    have hPk_10 : Sep G.1 clA (Fz (fun _ => False) H.size) [] H := sp_nil
    have hJk_10 := sp_nilJ (F := (fun _ => False)) hSep (fun _ => id) hFk_10
    refine c_i (va_runS (As := [.long x.toInt64, .long (0 : Int64), .long (6 : Int64)]) (rest := [.ref mo]) ⟨hx, hb, hml, hown, hts⟩ (m_X4_in l G H.size x.toInt64 (0 : Int64) (6 : Int64) ) (va_cwS 3 hts (lw_S q1532 q1533 q44 q1534) rfl rfl rfl (by decide +kernel) ⟨Nat.le_of_ble_eq_true rfl, Nat.le_of_ble_eq_true rfl⟩) (sp_preS hE hS hFk_10 hPk_10 trivial) rfl rfl hl.1 rfl (lv_room (Nat.le_of_ble_eq_true rfl)) dX4_best_18 ⟨by first | exact Nat.le_of_ble_eq_true rfl | omega | (dsimp only; omega), by first | exact Nat.le_of_ble_eq_true rfl | omega | (dsimp only; omega)⟩) hS hFk_10 hJk_10 (fun r_11 u_12 H locs hpk_10 hSep hS hzk_10 => ?_)
    obtain rfl : r_11 = (bI (inR x.toInt64.toInt (0 : Int64).toInt (6 : Int64).toInt)) := hpk_10
    refine W.cs (cells' := 0) (slots' := 0) rfl rfl ?_
    have hSep : Sep G.1 clA (Fz F s.heap.size) [pts mo (.inr (3, [.int rf, .ref aT, .int (nI T.length), .ref aN, .ref aL, .ref aP, .ref aD, .int (nI hs.length), .ref aK, .ref aZ, .ref aG, .ref aB, .int (nI bl), .int bp, .ref aS, .int (nI tl)])), pts aT (.inl (G.2.1 0, 20, .inl fT)), pts aN (.inl (G.2.1 0, 89, .inl fN)), pts aL (.inl (G.2.1 0, 89, .inl fL)), pts aP (.inl (G.2.1 0, 89, .inl fP)), pts aD (.inl (G.2.1 0, 1246, .inl fD)), pts aK (.inl (G.2.1 0, 178, .inl fK)), pts aZ (.inl (G.2.1 2, 2, .inl fZ)), pts aG (.inl (G.2.1 0, 18, .inl fG)), pts aB (.inl (G.2.1 0, 5, .inl fB)), pts aS (.inl (G.2.1 0, 5, .inl fS))] H := hSep
    refine n_eq (y := (bI (inR x.toInt 0 6))) (by rw [Int32.toInt_toInt64]; rfl) ?_
    refine b_if_eq (tgt := 28) hx hb dX4_best_21 (by decide) (fun c21 => ?_) (fun c21 => ?_)
    · refine lv_iconst (v := (nI 2)) hx hb dX4_best_28 (by decide) ?_
      exact L29 2 (Or.inl ⟨by decide, by unfold oBest; rw [if_neg (by rw [c5]; decide), if_pos c21]⟩) (by decide) _ _ _ hSep hS (lv_sub hl [0, 1, 2] rfl)
    · refine lv_iconst (v := (nI 0)) hx hb dX4_best_24 (by decide) ?_
      refine lv_goto (tgt := 29) hx hb dX4_best_25 (by decide) ?_
      exact L29 0 (Or.inr ⟨rfl, ⟨c5, c21⟩⟩) (by decide) _ _ _ hSep hS (lv_sub hl [0, 1, 2] rfl)
  · refine lv_iconst (v := (nI 1)) hx hb dX4_best_8 (by decide) ?_
    refine lv_goto (tgt := 29) hx hb dX4_best_9 (by decide) ?_
    exact L29 1 (Or.inl ⟨by decide, by unfold oBest; rw [if_pos c5]⟩) (by decide) _ _ _ hSep hS (lv_sub hl [0, 1, 2] rfl)

set_option maxHeartbeats 600000 in
set_option maxRecDepth 100000 in
theorem m_X4_ifForbidden (l : Launch) (G : EVT) (F : Nat → Prop) (sz : Nat) (mo : Nat) (rf : Int32) (σ : MS) (t : Int32) (x : Int32)  : Met l yX4_ifForbidden (ws_ yX4_ifForbidden cX4_ifForbidden 3 (some .int)) ({ frames := 3, cells := 0, slots := 0, locals := 89 } : Room) (SPc G F sz [.ref mo, .int t, .int x] [modA G mo rf σ] (fun _ => True)) (SQi G F sz (fun (r : Int32) (u : Unit) => (oIf σ t x).1 = 0 → r = (oIf σ t x).2.1) (fun (u : Unit) => [modA G mo (nI (oIf σ t x).1) (oIf σ t x).2.2])) (0) (0) (Fz F sz) := by
  refine sp_of RX4 (by decide) rfl (Nat.le_of_ble_eq_true rfl) ?_
  intro p e s m args below meth c ls QQ hx hb hr hts hown hlocks hml hnm hsz hSep hΦ hE hS hl hQ
  subst hsz
  have hK := hE.1
  have hl : lv_has ls 3 [(0, .ref mo), (1, .int t), (2, .int x)] := hl
  obtain ⟨g, hs, kp, T⟩ := σ
  obtain ⟨aT, aN, aL, aP, aD, aK, aZ, aG, aB, aS, bl, bp, tl, fT, fN, fL, fP, fD, fK, fZ, fG, fB, fS, hC, hSep⟩ := mod_unpk hSep
  have hg : gV g := hC.1.1
  have ho : gOk g := hC.1.1.1
  have he : Enc fN g := hC.1.2
  have hT : Pre fT T := hC.2.2.2.1
  have hT20 : T.length ≤ 20 := hC.2.2.2.2.1
  have hT256 : ∀ w ∈ T, w < 256 := hC.2.2.2.2.2
  have hD14 : hs.length ≤ 14 := hC.2.1.1
  have L20 : ∀ (x9 : Nat) , ((x9 ≠ 0 ∧ oIf (g, hs, kp, T) t x = (x9, 0, (g, hs, kp, T))) ∨ (x9 = 0 ∧ (inR t.toInt 0 1 = true ∧ inR x.toInt 0 17 = true))) → (x9 < 3) → ∀ (H : Heap) (locs : List Loc) (ls : Array Slot), Sep G.1 clA (Fz F s.heap.size) [pts mo (.inr (3, [.int rf, .ref aT, .int (nI T.length), .ref aN, .ref aL, .ref aP, .ref aD, .int (nI hs.length), .ref aK, .ref aZ, .ref aG, .ref aB, .int (nI bl), .int bp, .ref aS, .int (nI tl)])), pts aT (.inl (G.2.1 0, 20, .inl fT)), pts aN (.inl (G.2.1 0, 89, .inl fN)), pts aL (.inl (G.2.1 0, 89, .inl fL)), pts aP (.inl (G.2.1 0, 89, .inl fP)), pts aD (.inl (G.2.1 0, 1246, .inl fD)), pts aK (.inl (G.2.1 0, 178, .inl fK)), pts aZ (.inl (G.2.1 2, 2, .inl fZ)), pts aG (.inl (G.2.1 0, 18, .inl fG)), pts aB (.inl (G.2.1 0, 5, .inl fB)), pts aS (.inl (G.2.1 0, 5, .inl fS))] H → va_S (Fz F s.heap.size) s.heap H locs → lv_has ls 3 [(0, .ref mo), (1, .int t), (2, .int x)] → W p l e ({ frames := 3, cells := 0, slots := 0, locals := 89 } : Room) s m args below meth c H locs (0) (0) QQ (F0 m 20 ls [.int (nI x9), .ref mo]) := by
    intro x9 hrf hx9 H locs ls hSep hS hl
    obtain ⟨Fk_1, hFk_1, hPk_1, hJk_1⟩ := hSep.cut (Pc := [pts mo (.inr (3, [.int rf, .ref aT, .int (nI T.length), .ref aN, .ref aL, .ref aP, .ref aD, .int (nI hs.length), .ref aK, .ref aZ, .ref aG, .ref aB, .int (nI bl), .int bp, .ref aS, .int (nI tl)]))]) (Pr := [pts aT (.inl (G.2.1 0, 20, .inl fT)), pts aN (.inl (G.2.1 0, 89, .inl fN)), pts aL (.inl (G.2.1 0, 89, .inl fL)), pts aP (.inl (G.2.1 0, 89, .inl fP)), pts aD (.inl (G.2.1 0, 1246, .inl fD)), pts aK (.inl (G.2.1 0, 178, .inl fK)), pts aZ (.inl (G.2.1 2, 2, .inl fZ)), pts aG (.inl (G.2.1 0, 18, .inl fG)), pts aB (.inl (G.2.1 0, 5, .inl fB)), pts aS (.inl (G.2.1 0, 5, .inl fS))]) (fun q h => Fz.new (Nat.le_trans hS.1 h)) [0] [1, 2, 3, 4, 5, 6, 7, 8, 9, 10] rfl rfl rfl rfl (by decide)
    refine c_i (va_runV (As := [.int (nI x9)]) (rest := []) ⟨hx, hb, hml, hown, hts⟩ (m_X4_refused l G Fk_1 H.size mo rf aT T.length aN aL aP aD hs.length aK aZ aG aB bl bp aS tl x9 (by omega)) (cwV 1 hts (lw_V q1535 q1537 qs21 q44 q1538) rfl rfl rfl (by decide +kernel) ⟨Nat.le_of_ble_eq_true rfl, Nat.le_of_ble_eq_true rfl⟩) (sp_preV hE hS hFk_1 hPk_1 trivial (sp_recv (ci := 3) hK (hSep.cel (k := 0) rfl) rfl)) rfl rfl hl.1 rfl (lv_room (Nat.le_of_ble_eq_true rfl)) dX4_ifForbidden_20 ⟨by first | exact Nat.le_of_ble_eq_true rfl | omega | (dsimp only; omega), by first | exact Nat.le_of_ble_eq_true rfl | omega | (dsimp only; omega)⟩) hS hFk_1 hJk_1 (fun r_2 u_3 H locs hpk_1 hSep hS hzk_1 => ?_)
    obtain rfl : r_2 = (bI (decide (0 < x9))) := hpk_1
    refine W.cs (cells' := 0) (slots' := 0) rfl rfl ?_
    have hSep : Sep G.1 clA (Fz F s.heap.size) [pts aT (.inl (G.2.1 0, 20, .inl fT)), pts aN (.inl (G.2.1 0, 89, .inl fN)), pts aL (.inl (G.2.1 0, 89, .inl fL)), pts aP (.inl (G.2.1 0, 89, .inl fP)), pts aD (.inl (G.2.1 0, 1246, .inl fD)), pts aK (.inl (G.2.1 0, 178, .inl fK)), pts aZ (.inl (G.2.1 2, 2, .inl fZ)), pts aG (.inl (G.2.1 0, 18, .inl fG)), pts aB (.inl (G.2.1 0, 5, .inl fB)), pts aS (.inl (G.2.1 0, 5, .inl fS)), pts mo (.inr (3, [.int (nI x9), .ref aT, .int (nI T.length), .ref aN, .ref aL, .ref aP, .ref aD, .int (nI hs.length), .ref aK, .ref aZ, .ref aG, .ref aB, .int (nI bl), .int bp, .ref aS, .int (nI tl)]))] H := hSep
    refine b_if_eq (tgt := 28) hx hb dX4_ifForbidden_23 (by decide) (fun c23 => ?_) (fun c23 => ?_)
    · obtain ⟨hx0, hgd⟩ := hrf.resolve_left (fun h => h.1 (by have := of_decide_eq_false c23; omega))
      subst hx0
      obtain ⟨t9, ht91, ht92, rfl⟩ := inR_n (n := 1) hgd.1
      obtain ⟨n9, hn91, hn92, rfl⟩ := inR_n (n := 17) hgd.2
      refine lv_aload_n hx hb dX4_ifForbidden_28 rfl (lv_at hl 0 rfl) ?_
      refine va_get (D := G.1) (ci := 3) (v := .ref aN) (C := RX4) (T := TX4) (N := 16) hx hb hts in_X4 hown hK (hSep.cel (k := 10) rfl) 0 rfl rfl 3 (by decide) (hts _ q1476) (fun _ h9 => h9) rfl dX4_ifForbidden_29 ?_
      refine lv_iconst (v := (nI 0)) hx hb dX4_ifForbidden_32 (by decide) ?_
      refine n_iald (i := 0) hx hb hK (hSep.cel (k := 1) rfl) 0 rfl (by omega) (by omega) dX4_ifForbidden_33 ?_
      refine n_eq (y := (g.1 0)) (he.num (by decide)) ?_
      refine lv_if_ne (tgt := 39) hx hb dX4_ifForbidden_34 (by decide) (fun c34 => ?_) (fun c34 => ?_)
      · refine lv_aload_n hx hb dX4_ifForbidden_39 rfl (lv_at hl 0 rfl) ?_
        refine lv_aload_n hx hb dX4_ifForbidden_40 rfl (lv_at hl 0 rfl) ?_
        refine va_get (D := G.1) (ci := 3) (v := .ref aN) (C := RX4) (T := TX4) (N := 16) hx hb hts in_X4 hown hK (hSep.cel (k := 10) rfl) 0 rfl rfl 3 (by decide) (hts _ q1476) (fun _ h9 => h9) rfl dX4_ifForbidden_41 ?_
        refine lv_iload_n hx hb dX4_ifForbidden_44 rfl (lv_at hl 1 rfl) ?_
        obtain ⟨Fk_4, hFk_4, hPk_4, hJk_4⟩ := hSep.cut (Pc := [pts mo (.inr (3, [.int (nI 0), .ref aT, .int (nI T.length), .ref aN, .ref aL, .ref aP, .ref aD, .int (nI hs.length), .ref aK, .ref aZ, .ref aG, .ref aB, .int (nI bl), .int bp, .ref aS, .int (nI tl)])), pts aN (.inl (G.2.1 0, 89, .inl fN)), pts aG (.inl (G.2.1 0, 18, .inl fG))]) (Pr := [pts aT (.inl (G.2.1 0, 20, .inl fT)), pts aL (.inl (G.2.1 0, 89, .inl fL)), pts aP (.inl (G.2.1 0, 89, .inl fP)), pts aD (.inl (G.2.1 0, 1246, .inl fD)), pts aK (.inl (G.2.1 0, 178, .inl fK)), pts aZ (.inl (G.2.1 2, 2, .inl fZ)), pts aB (.inl (G.2.1 0, 5, .inl fB)), pts aS (.inl (G.2.1 0, 5, .inl fS))]) (fun q h => Fz.new (Nat.le_trans hS.1 h)) [10, 1, 7] [0, 2, 3, 4, 5, 6, 8, 9] rfl rfl rfl rfl (by decide)
        refine c_v (va_runV (As := [.ref aN, .int (nI t9)]) (rest := []) ⟨hx, hb, hml, hown, hts⟩ (m_X4_reckon l G Fk_4 H.size mo (nI 0) aT T.length aN aL aP aD hs.length aK aZ aG aB bl bp aS tl aN fN g t9 fG (he) (by first | assumption | omega) (by omega)) (cwV 2 hts (lw_V q1686 q1688 qs31 q44 q1689) rfl rfl rfl (by decide +kernel) ⟨Nat.le_of_ble_eq_true rfl, Nat.le_of_ble_eq_true rfl⟩) (sp_preV hE hS hFk_4 hPk_4 trivial (sp_recv (ci := 3) hK (hSep.cel (k := 10) rfl) rfl)) rfl rfl hl.1 rfl (lv_room (Nat.le_of_ble_eq_true rfl)) dX4_ifForbidden_45 ⟨by first | exact Nat.le_of_ble_eq_true rfl | omega | (dsimp only; omega), by first | exact Nat.le_of_ble_eq_true rfl | omega | (dsimp only; omega)⟩) hS hFk_4 hJk_4 (fun u_6 H locs hpk_4 hSep hS hzk_4 => ?_)
        obtain ⟨fG5, rfl⟩ : ∃ z, z = u_6 := ⟨_, rfl⟩
        have hpk_4 : ∀ w, w < 18 → fG5 w = gI (bnG g t9) (gain g) w := hpk_4
        refine W.cs (cells' := 0) (slots' := 0) rfl rfl ?_
        have hSep : Sep G.1 clA (Fz F s.heap.size) [pts aT (.inl (G.2.1 0, 20, .inl fT)), pts aL (.inl (G.2.1 0, 89, .inl fL)), pts aP (.inl (G.2.1 0, 89, .inl fP)), pts aD (.inl (G.2.1 0, 1246, .inl fD)), pts aK (.inl (G.2.1 0, 178, .inl fK)), pts aZ (.inl (G.2.1 2, 2, .inl fZ)), pts aB (.inl (G.2.1 0, 5, .inl fB)), pts aS (.inl (G.2.1 0, 5, .inl fS)), pts mo (.inr (3, [.int (nI 0), .ref aT, .int (nI T.length), .ref aN, .ref aL, .ref aP, .ref aD, .int (nI hs.length), .ref aK, .ref aZ, .ref aG, .ref aB, .int (nI bl), .int bp, .ref aS, .int (nI tl)])), pts aN (.inl (G.2.1 0, 89, .inl fN)), pts aG (.inl (G.2.1 0, 18, .inl fG5))] H := hSep
        have hG5 := hpk_4
        refine lv_aload_n hx hb dX4_ifForbidden_48 rfl (lv_at hl 0 rfl) ?_
        refine va_get (D := G.1) (ci := 3) (v := .ref aG) (C := RX4) (T := TX4) (N := 16) hx hb hts in_X4 hown hK (hSep.cel (k := 8) rfl) 0 rfl rfl 10 (by decide) (hts _ q1483) (fun _ h9 => h9) rfl dX4_ifForbidden_49 ?_
        refine lv_iload_n hx hb dX4_ifForbidden_52 rfl (lv_at hl 2 rfl) ?_
        refine lv_iconst (v := (-1)) hx hb dX4_ifForbidden_53 (by decide) ?_
        refine n_iast (i := n9) (x := (-1)) (y := (-1)) hx hb hK hSep hS 10 rfl 0 rfl (by omega) (by omega) (rfl) dX4_ifForbidden_54 (fun H locs hSep hS => ?_)
        have hSep : Sep G.1 clA (Fz F s.heap.size) [pts aT (.inl (G.2.1 0, 20, .inl fT)), pts aL (.inl (G.2.1 0, 89, .inl fL)), pts aP (.inl (G.2.1 0, 89, .inl fP)), pts aD (.inl (G.2.1 0, 1246, .inl fD)), pts aK (.inl (G.2.1 0, 178, .inl fK)), pts aZ (.inl (G.2.1 2, 2, .inl fZ)), pts aB (.inl (G.2.1 0, 5, .inl fB)), pts aS (.inl (G.2.1 0, 5, .inl fS)), pts mo (.inr (3, [.int (nI 0), .ref aT, .int (nI T.length), .ref aN, .ref aL, .ref aP, .ref aD, .int (nI hs.length), .ref aK, .ref aZ, .ref aG, .ref aB, .int (nI bl), .int bp, .ref aS, .int (nI tl)])), pts aN (.inl (G.2.1 0, 89, .inl fN)), pts aG (.inl (G.2.1 0, 18, .inl (upd fG5 n9 (-1))))] H := hSep
        refine lv_aload_n hx hb dX4_ifForbidden_55 rfl (lv_at hl 0 rfl) ?_
        obtain ⟨Fk_7, hFk_7, hPk_7, hJk_7⟩ := hSep.cut (Pc := [pts mo (.inr (3, [.int (nI 0), .ref aT, .int (nI T.length), .ref aN, .ref aL, .ref aP, .ref aD, .int (nI hs.length), .ref aK, .ref aZ, .ref aG, .ref aB, .int (nI bl), .int bp, .ref aS, .int (nI tl)])), pts aS (.inl (G.2.1 0, 5, .inl fS)), pts aG (.inl (G.2.1 0, 18, .inl (upd fG5 n9 (-1)))), pts aB (.inl (G.2.1 0, 5, .inl fB))]) (Pr := [pts aT (.inl (G.2.1 0, 20, .inl fT)), pts aL (.inl (G.2.1 0, 89, .inl fL)), pts aP (.inl (G.2.1 0, 89, .inl fP)), pts aD (.inl (G.2.1 0, 1246, .inl fD)), pts aK (.inl (G.2.1 0, 178, .inl fK)), pts aZ (.inl (G.2.1 2, 2, .inl fZ)), pts aN (.inl (G.2.1 0, 89, .inl fN))]) (fun q h => Fz.new (Nat.le_trans hS.1 h)) [8, 7, 10, 6] [0, 1, 2, 3, 4, 5, 9] rfl rfl rfl rfl (by decide)
        refine c_i (va_runV (As := []) (rest := []) ⟨hx, hb, hml, hown, hts⟩ (m_X4_findBest l G Fk_7 H.size mo (nI 0) aT T.length aN aL aP aD hs.length aK aZ aG aB bl bp aS tl (fun v => decide (v = n9) || bnG g t9 v) (gain g) fS fB (upd fG5 n9 (-1)) (gainN_bn g t9 n9 hG5) (gain_le g)) (cwV 0 hts (lw_V q1690 q1692 qs32 q44 q1693) rfl rfl rfl (by decide +kernel) ⟨Nat.le_of_ble_eq_true rfl, Nat.le_of_ble_eq_true rfl⟩) (sp_preV hE hS hFk_7 hPk_7 trivial (sp_recv (ci := 3) hK (hSep.cel (k := 8) rfl) rfl)) rfl rfl hl.1 rfl (lv_room (Nat.le_of_ble_eq_true rfl)) dX4_ifForbidden_56 ⟨by first | exact Nat.le_of_ble_eq_true rfl | omega | (dsimp only; omega), by first | exact Nat.le_of_ble_eq_true rfl | omega | (dsimp only; omega)⟩) hS hFk_7 hJk_7 (fun r_8 u_9 H locs hpk_7 hSep hS hzk_7 => ?_)
        obtain ⟨P2, b2, fS5, fB5, tl5⟩ := u_9
        obtain ⟨rfl, hpk_7⟩ : r_8 = (ptI P2) ∧ BestOn (smS (gain g)) (okS (fun v => decide (v = n9) || bnG g t9 v)) P2 b2 ∧ Pre fB5 b2 := hpk_7
        refine W.cs (cells' := 0) (slots' := 0) rfl rfl ?_
        have hSep : Sep G.1 clA (Fz F s.heap.size) [pts aT (.inl (G.2.1 0, 20, .inl fT)), pts aL (.inl (G.2.1 0, 89, .inl fL)), pts aP (.inl (G.2.1 0, 89, .inl fP)), pts aD (.inl (G.2.1 0, 1246, .inl fD)), pts aK (.inl (G.2.1 0, 178, .inl fK)), pts aZ (.inl (G.2.1 2, 2, .inl fZ)), pts aN (.inl (G.2.1 0, 89, .inl fN)), pts mo (.inr (3, [.int (nI 0), .ref aT, .int (nI T.length), .ref aN, .ref aL, .ref aP, .ref aD, .int (nI hs.length), .ref aK, .ref aZ, .ref aG, .ref aB, .int (nI b2.length), .int (ptI P2), .ref aS, .int (nI tl5)])), pts aS (.inl (G.2.1 0, 5, .inl fS5)), pts aG (.inl (G.2.1 0, 18, .inl (upd fG5 n9 (-1)))), pts aB (.inl (G.2.1 0, 5, .inl fB5))] H := hSep
        have hF := hpk_7
        have hbs := bst_eq hF.1
        have hop : oIf (g, hs, kp, T) (nI t9) (nI n9) = (0, ptI P2, g, hs, kp, T) := by unfold oIf; rw [if_neg (fun h => h.elim (fun h => by rw [hgd.1] at h; cases h) (fun h => by rw [hgd.2] at h; cases h))]; refine congrArg (fun v => (0, v, _)) ((if_neg (show ¬ g.1 0 = nI 0 from c34)).trans ?_); rw [nI_toInt ht92, Int.toNat_natCast, nI_toInt hn92, Int.toNat_natCast]; unfold gIf; rw [hbs]
        rw [hQ]
        exact r_i (r := (ptI P2)) (u := ()) hx hb hr (by rw [hop]; exact fun _ => rfl) (by rw [hop]; exact mod_close (hSep.pick [7, 0, 6, 1, 2, 3, 4, 5, 9, 10, 8] rfl rfl) rfl rfl rfl hC) hS (by first | exact Nat.le_of_ble_eq_true rfl | omega | (dsimp only; omega)) (by first | exact Nat.le_of_ble_eq_true rfl | omega | (dsimp only; omega)) dX4_ifForbidden_59 hlocks
      · refine lv_iconst (v := (-1)) hx hb dX4_ifForbidden_37 (by decide) ?_
        have hop : oIf (g, hs, kp, T) (nI t9) (nI n9) = (0, -1, g, hs, kp, T) := by unfold oIf; rw [if_neg (fun h => h.elim (fun h => by rw [hgd.1] at h; cases h) (fun h => by rw [hgd.2] at h; cases h))]; exact congrArg (fun v => (0, v, _)) (if_pos (show g.1 0 = nI 0 from c34))
        rw [hQ]
        exact r_i (r := (-1)) (u := ()) hx hb hr (by rw [hop]; exact fun _ => rfl) (by rw [hop]; exact mod_close (hSep.pick [10, 0, 1, 2, 3, 4, 5, 6, 7, 8, 9] rfl rfl) rfl rfl rfl hC) hS (by first | exact Nat.le_of_ble_eq_true rfl | omega | (dsimp only; omega)) (by first | exact Nat.le_of_ble_eq_true rfl | omega | (dsimp only; omega)) dX4_ifForbidden_38 hlocks
    · obtain ⟨hx1, hop⟩ := hrf.resolve_right (fun h => absurd (of_decide_eq_true c23) (by rw [h.1]; decide))
      refine lv_iconst (v := (nI 0)) hx hb dX4_ifForbidden_26 (by decide) ?_
      rw [hQ]
      exact r_i (r := (nI 0)) (u := ()) hx hb hr (by rw [hop]; exact fun h => absurd h hx1) (by rw [hop]; exact mod_close (hSep.pick [10, 0, 1, 2, 3, 4, 5, 6, 7, 8, 9] rfl rfl) rfl rfl rfl hC) hS (by first | exact Nat.le_of_ble_eq_true rfl | omega | (dsimp only; omega)) (by first | exact Nat.le_of_ble_eq_true rfl | omega | (dsimp only; omega)) dX4_ifForbidden_27 hlocks
  refine lv_aload_n hx hb dX4_ifForbidden_0 rfl (lv_at hl 0 rfl) ?_
  refine lv_iload_n hx hb dX4_ifForbidden_1 rfl (lv_at hl 1 rfl) ?_
  have hFk_10 : ∀ q, Fz (fun _ => False) s.heap.size q → (Fz F s.heap.size) q := fun q h => by rcases h with h | h; exact h.elim; exact Fz.new (Nat.le_trans hS.1 h)
  have hPk_10 : Sep G.1 clA (Fz (fun _ => False) s.heap.size) [] s.heap := sp_nil
  have hJk_10 := sp_nilJ (F := (fun _ => False)) hSep (fun _ => id) hFk_10
  refine c_i (va_runS (As := [.int t]) (rest := [.ref mo]) ⟨hx, hb, hml, hown, hts⟩ (m_X4_isTeller l G s.heap.size t ) (va_cwS 1 hts (lw_S q1577 q1578 q44 q1579) rfl rfl rfl (by decide +kernel) ⟨Nat.le_of_ble_eq_true rfl, Nat.le_of_ble_eq_true rfl⟩) (sp_preS hE hS hFk_10 hPk_10 trivial) rfl rfl hl.1 rfl (lv_room (Nat.le_of_ble_eq_true rfl)) dX4_ifForbidden_2 ⟨by first | exact Nat.le_of_ble_eq_true rfl | omega | (dsimp only; omega), by first | exact Nat.le_of_ble_eq_true rfl | omega | (dsimp only; omega)⟩) hS hFk_10 hJk_10 (fun r_11 u_12 H locs hpk_10 hSep hS hzk_10 => ?_)
  obtain rfl : r_11 = (bI (inR t.toInt 0 1)) := hpk_10
  refine W.cs (cells' := 0) (slots' := 0) rfl rfl ?_
  have hSep : Sep G.1 clA (Fz F s.heap.size) [pts mo (.inr (3, [.int rf, .ref aT, .int (nI T.length), .ref aN, .ref aL, .ref aP, .ref aD, .int (nI hs.length), .ref aK, .ref aZ, .ref aG, .ref aB, .int (nI bl), .int bp, .ref aS, .int (nI tl)])), pts aT (.inl (G.2.1 0, 20, .inl fT)), pts aN (.inl (G.2.1 0, 89, .inl fN)), pts aL (.inl (G.2.1 0, 89, .inl fL)), pts aP (.inl (G.2.1 0, 89, .inl fP)), pts aD (.inl (G.2.1 0, 1246, .inl fD)), pts aK (.inl (G.2.1 0, 178, .inl fK)), pts aZ (.inl (G.2.1 2, 2, .inl fZ)), pts aG (.inl (G.2.1 0, 18, .inl fG)), pts aB (.inl (G.2.1 0, 5, .inl fB)), pts aS (.inl (G.2.1 0, 5, .inl fS))] H := hSep
  refine b_if_eq (tgt := 19) hx hb dX4_ifForbidden_5 (by decide) (fun c5 => ?_) (fun c5 => ?_)
  · refine lv_iconst (v := (nI 1)) hx hb dX4_ifForbidden_19 (by decide) ?_
    exact L20 1 (Or.inl ⟨by decide, by unfold oIf; first | rw [if_pos (Or.inl (show inR t.toInt 0 1 = false from c5))] | rw [if_pos (Or.inr (show inR x.toInt 0 17 = false from c12))]⟩) (by decide) _ _ _ hSep hS (lv_sub hl [0, 1, 2] rfl)
  · refine lv_iload_n hx hb dX4_ifForbidden_8 rfl (lv_at hl 2 rfl) ?_
    have hFk_13 : ∀ q, Fz (fun _ => False) H.size q → (Fz F s.heap.size) q := fun q h => by rcases h with h | h; exact h.elim; exact Fz.new (Nat.le_trans hS.1 h)
    have hPk_13 : Sep G.1 clA (Fz (fun _ => False) H.size) [] H := sp_nil
    have hJk_13 := sp_nilJ (F := (fun _ => False)) hSep (fun _ => id) hFk_13
    refine c_i (va_runS (As := [.int x]) (rest := [.ref mo]) ⟨hx, hb, hml, hown, hts⟩ (m_X4_isWord l G H.size x ) (va_cwS 1 hts (lw_S q1551 q1552 q44 q1553) rfl rfl rfl (by decide +kernel) ⟨Nat.le_of_ble_eq_true rfl, Nat.le_of_ble_eq_true rfl⟩) (sp_preS hE hS hFk_13 hPk_13 trivial) rfl rfl hl.1 rfl (lv_room (Nat.le_of_ble_eq_true rfl)) dX4_ifForbidden_9 ⟨by first | exact Nat.le_of_ble_eq_true rfl | omega | (dsimp only; omega), by first | exact Nat.le_of_ble_eq_true rfl | omega | (dsimp only; omega)⟩) hS hFk_13 hJk_13 (fun r_14 u_15 H locs hpk_13 hSep hS hzk_13 => ?_)
    obtain rfl : r_14 = (bI (inR x.toInt 0 17)) := hpk_13
    refine W.cs (cells' := 0) (slots' := 0) rfl rfl ?_
    have hSep : Sep G.1 clA (Fz F s.heap.size) [pts mo (.inr (3, [.int rf, .ref aT, .int (nI T.length), .ref aN, .ref aL, .ref aP, .ref aD, .int (nI hs.length), .ref aK, .ref aZ, .ref aG, .ref aB, .int (nI bl), .int bp, .ref aS, .int (nI tl)])), pts aT (.inl (G.2.1 0, 20, .inl fT)), pts aN (.inl (G.2.1 0, 89, .inl fN)), pts aL (.inl (G.2.1 0, 89, .inl fL)), pts aP (.inl (G.2.1 0, 89, .inl fP)), pts aD (.inl (G.2.1 0, 1246, .inl fD)), pts aK (.inl (G.2.1 0, 178, .inl fK)), pts aZ (.inl (G.2.1 2, 2, .inl fZ)), pts aG (.inl (G.2.1 0, 18, .inl fG)), pts aB (.inl (G.2.1 0, 5, .inl fB)), pts aS (.inl (G.2.1 0, 5, .inl fS))] H := hSep
    refine b_if_eq (tgt := 19) hx hb dX4_ifForbidden_12 (by decide) (fun c12 => ?_) (fun c12 => ?_)
    · refine lv_iconst (v := (nI 1)) hx hb dX4_ifForbidden_19 (by decide) ?_
      exact L20 1 (Or.inl ⟨by decide, by unfold oIf; first | rw [if_pos (Or.inl (show inR t.toInt 0 1 = false from c5))] | rw [if_pos (Or.inr (show inR x.toInt 0 17 = false from c12))]⟩) (by decide) _ _ _ hSep hS (lv_sub hl [0, 1, 2] rfl)
    · refine lv_iconst (v := (nI 0)) hx hb dX4_ifForbidden_15 (by decide) ?_
      refine lv_goto (tgt := 20) hx hb dX4_ifForbidden_16 (by decide) ?_
      exact L20 0 (Or.inr ⟨rfl, ⟨c5, c12⟩⟩) (by decide) _ _ _ hSep hS (lv_sub hl [0, 1, 2] rfl)

set_option maxHeartbeats 600000 in
set_option maxRecDepth 100000 in
theorem m_X4_bestBan (l : Launch) (G : EVT) (F : Nat → Prop) (sz : Nat) (mo : Nat) (rf : Int32) (σ : MS)  : Met l yX4_bestBan (ws_ yX4_bestBan cX4_bestBan 1 (some .int)) ({ frames := 5, cells := 0, slots := 0, locals := 136 } : Room) (SPc G F sz [.ref mo] [modA G mo rf σ] (fun _ => True)) (SQi G F sz (fun (r : Int32) (u : Unit) => (oBan σ).1 = 0 → r = (oBan σ).2.1) (fun (u : Unit) => [modA G mo (nI (oBan σ).1) (oBan σ).2.2])) (0) (0) (Fz F sz) := by
  refine sp_of RX4 (by decide) rfl (Nat.le_of_ble_eq_true rfl) ?_
  intro p e s m args below meth c ls QQ hx hb hr hts hown hlocks hml hnm hsz hSep hΦ hE hS hl hQ
  subst hsz
  have hK := hE.1
  have hl : lv_has ls 1 [(0, .ref mo)] := hl
  obtain ⟨g, hs, kp, T⟩ := σ
  obtain ⟨aT, aN, aL, aP, aD, aK, aZ, aG, aB, aS, bl, bp, tl, fT, fN, fL, fP, fD, fK, fZ, fG, fB, fS, hC, hSep⟩ := mod_unpk hSep
  have hg : gV g := hC.1.1
  have ho : gOk g := hC.1.1.1
  have he : Enc fN g := hC.1.2
  have hT : Pre fT T := hC.2.2.2.1
  have hT20 : T.length ≤ 20 := hC.2.2.2.2.1
  have hT256 : ∀ w ∈ T, w < 256 := hC.2.2.2.2.2
  have hD14 : hs.length ≤ 14 := hC.2.1.1
  refine lv_aload_n hx hb dX4_bestBan_0 rfl (lv_at hl 0 rfl) ?_
  refine lv_iconst (v := (nI 0)) hx hb dX4_bestBan_1 (by decide) ?_
  refine s_put (ci := 3) (v := .int (nI 0)) (ty := .int) (C := RX4) (T := TX4) (N := 16) hx hb hts in_X4 tyX4 tyX4_ok nmX4 hown hK hSep hS 0 rfl rfl 0 (by decide) (hts _ q1473) (fun _ h9 => h9) rfl (by decide +kernel) rfl rfl (Nat.le_of_ble_eq_true rfl) dX4_bestBan_2 (fun H locs hSep hS => ?_)
  have hSep : Sep G.1 clA (Fz F s.heap.size) [pts mo (.inr (3, [.int (nI 0), .ref aT, .int (nI T.length), .ref aN, .ref aL, .ref aP, .ref aD, .int (nI hs.length), .ref aK, .ref aZ, .ref aG, .ref aB, .int (nI bl), .int bp, .ref aS, .int (nI tl)])), pts aT (.inl (G.2.1 0, 20, .inl fT)), pts aN (.inl (G.2.1 0, 89, .inl fN)), pts aL (.inl (G.2.1 0, 89, .inl fL)), pts aP (.inl (G.2.1 0, 89, .inl fP)), pts aD (.inl (G.2.1 0, 1246, .inl fD)), pts aK (.inl (G.2.1 0, 178, .inl fK)), pts aZ (.inl (G.2.1 2, 2, .inl fZ)), pts aG (.inl (G.2.1 0, 18, .inl fG)), pts aB (.inl (G.2.1 0, 5, .inl fB)), pts aS (.inl (G.2.1 0, 5, .inl fS))] H := hSep
  refine lv_aload_n hx hb dX4_bestBan_5 rfl (lv_at hl 0 rfl) ?_
  refine lv_aload_n hx hb dX4_bestBan_6 rfl (lv_at hl 0 rfl) ?_
  refine va_get (D := G.1) (ci := 3) (v := .ref aN) (C := RX4) (T := TX4) (N := 16) hx hb hts in_X4 hown hK (hSep.cel (k := 0) rfl) 0 rfl rfl 3 (by decide) (hts _ q1476) (fun _ h9 => h9) rfl dX4_bestBan_7 ?_
  obtain ⟨Fk_1, hFk_1, hPk_1, hJk_1⟩ := hSep.cut (Pc := [pts mo (.inr (3, [.int (nI 0), .ref aT, .int (nI T.length), .ref aN, .ref aL, .ref aP, .ref aD, .int (nI hs.length), .ref aK, .ref aZ, .ref aG, .ref aB, .int (nI bl), .int bp, .ref aS, .int (nI tl)])), pts aN (.inl (G.2.1 0, 89, .inl fN)), pts aS (.inl (G.2.1 0, 5, .inl fS)), pts aG (.inl (G.2.1 0, 18, .inl fG)), pts aB (.inl (G.2.1 0, 5, .inl fB)), pts aP (.inl (G.2.1 0, 89, .inl fP))]) (Pr := [pts aT (.inl (G.2.1 0, 20, .inl fT)), pts aL (.inl (G.2.1 0, 89, .inl fL)), pts aD (.inl (G.2.1 0, 1246, .inl fD)), pts aK (.inl (G.2.1 0, 178, .inl fK)), pts aZ (.inl (G.2.1 2, 2, .inl fZ))]) (fun q h => Fz.new (Nat.le_trans hS.1 h)) [0, 2, 10, 8, 9, 4] [1, 3, 5, 6, 7] rfl rfl rfl rfl (by decide)
  refine c_i (va_runV (As := [.ref aN]) (rest := []) ⟨hx, hb, hml, hown, hts⟩ (m_X4_banOf l G Fk_1 H.size mo (nI 0) aT T.length aN aL aP aD hs.length aK aZ aG aB bl bp aS tl aN fN g fS fG fB fP (he) (by first | assumption | omega)) (cwV 1 hts (lw_V q1702 q1704 qs35 q44 q1705) rfl rfl rfl (by decide +kernel) ⟨Nat.le_of_ble_eq_true rfl, Nat.le_of_ble_eq_true rfl⟩) (sp_preV hE hS hFk_1 hPk_1 trivial (sp_recv (ci := 3) hK (hSep.cel (k := 0) rfl) rfl)) rfl rfl hl.1 rfl (lv_room (Nat.le_of_ble_eq_true rfl)) dX4_bestBan_10 ⟨by first | exact Nat.le_of_ble_eq_true rfl | omega | (dsimp only; omega), by first | exact Nat.le_of_ble_eq_true rfl | omega | (dsimp only; omega)⟩) hS hFk_1 hJk_1 (fun r_2 u_3 H locs hpk_1 hSep hS hzk_1 => ?_)
  obtain ⟨bl4_4, bp4_5, tl4_6, fS4_7, fG4_8, fB4_9, fP4_10⟩ := u_3
  obtain rfl : r_2 = (oI (gBanOf g)) := hpk_1
  refine W.cs (cells' := 0) (slots' := 0) rfl rfl ?_
  have hSep : Sep G.1 clA (Fz F s.heap.size) [pts aT (.inl (G.2.1 0, 20, .inl fT)), pts aL (.inl (G.2.1 0, 89, .inl fL)), pts aD (.inl (G.2.1 0, 1246, .inl fD)), pts aK (.inl (G.2.1 0, 178, .inl fK)), pts aZ (.inl (G.2.1 2, 2, .inl fZ)), pts mo (.inr (3, [.int (nI 0), .ref aT, .int (nI T.length), .ref aN, .ref aL, .ref aP, .ref aD, .int (nI hs.length), .ref aK, .ref aZ, .ref aG, .ref aB, .int (nI bl4_4), .int bp4_5, .ref aS, .int (nI tl4_6)])), pts aN (.inl (G.2.1 0, 89, .inl fN)), pts aS (.inl (G.2.1 0, 5, .inl fS4_7)), pts aG (.inl (G.2.1 0, 18, .inl fG4_8)), pts aB (.inl (G.2.1 0, 5, .inl fB4_9)), pts aP (.inl (G.2.1 0, 89, .inl fP4_10))] H := hSep
  have hop : oBan (g, hs, kp, T) = (0, oI (gBanOf g), g, hs, kp, T) := rfl
  rw [hQ]
  exact r_i (r := (oI (gBanOf g))) (u := ()) hx hb hr (by rw [hop]; exact fun _ => rfl) (by rw [hop]; exact mod_close (hSep.pick [5, 0, 6, 1, 10, 2, 3, 4, 8, 9, 7] rfl rfl) rfl rfl rfl hC) hS (by first | exact Nat.le_of_ble_eq_true rfl | omega | (dsimp only; omega)) (by first | exact Nat.le_of_ble_eq_true rfl | omega | (dsimp only; omega)) dX4_bestBan_13 hlocks

set_option maxHeartbeats 600000 in
set_option maxRecDepth 100000 in
theorem m_X4_leaves (l : Launch) (G : EVT) (F : Nat → Prop) (sz : Nat) (mo : Nat) (rf : Int32) (σ : MS) (t : Int32)  : Met l yX4_leaves (ws_ yX4_leaves cX4_leaves 2 (some .boolean)) ({ frames := 1, cells := 0, slots := 0, locals := 25 } : Room) (SPc G F sz [.ref mo, .int t] [modA G mo rf σ] (fun _ => True)) (SQi G F sz (fun (r : Int32) (u : Unit) => (oLeaves σ t).1 = 0 → r = bI (oLeaves σ t).2.1) (fun (u : Unit) => [modA G mo (nI (oLeaves σ t).1) (oLeaves σ t).2.2])) (0) (0) (Fz F sz) := by
  refine sp_of RX4 (by decide) rfl (Nat.le_of_ble_eq_true rfl) ?_
  intro p e s m args below meth c ls QQ hx hb hr hts hown hlocks hml hnm hsz hSep hΦ hE hS hl hQ
  subst hsz
  have hK := hE.1
  have hl : lv_has ls 2 [(0, .ref mo), (1, .int t)] := hl
  obtain ⟨g, hs, kp, T⟩ := σ
  obtain ⟨aT, aN, aL, aP, aD, aK, aZ, aG, aB, aS, bl, bp, tl, fT, fN, fL, fP, fD, fK, fZ, fG, fB, fS, hC, hSep⟩ := mod_unpk hSep
  have hg : gV g := hC.1.1
  have ho : gOk g := hC.1.1.1
  have he : Enc fN g := hC.1.2
  have hT : Pre fT T := hC.2.2.2.1
  have hT20 : T.length ≤ 20 := hC.2.2.2.2.1
  have hT256 : ∀ w ∈ T, w < 256 := hC.2.2.2.2.2
  have hD14 : hs.length ≤ 14 := hC.2.1.1
  have L18 : ∀ (x9 : Nat) , ((x9 ≠ 0 ∧ oLeaves (g, hs, kp, T) t = (x9, false, (g, hs, kp, T))) ∨ (x9 = 0 ∧ inR t.toInt 0 2 = true)) → (x9 < 3) → ∀ (H : Heap) (locs : List Loc) (ls : Array Slot), Sep G.1 clA (Fz F s.heap.size) [pts mo (.inr (3, [.int rf, .ref aT, .int (nI T.length), .ref aN, .ref aL, .ref aP, .ref aD, .int (nI hs.length), .ref aK, .ref aZ, .ref aG, .ref aB, .int (nI bl), .int bp, .ref aS, .int (nI tl)])), pts aT (.inl (G.2.1 0, 20, .inl fT)), pts aN (.inl (G.2.1 0, 89, .inl fN)), pts aL (.inl (G.2.1 0, 89, .inl fL)), pts aP (.inl (G.2.1 0, 89, .inl fP)), pts aD (.inl (G.2.1 0, 1246, .inl fD)), pts aK (.inl (G.2.1 0, 178, .inl fK)), pts aZ (.inl (G.2.1 2, 2, .inl fZ)), pts aG (.inl (G.2.1 0, 18, .inl fG)), pts aB (.inl (G.2.1 0, 5, .inl fB)), pts aS (.inl (G.2.1 0, 5, .inl fS))] H → va_S (Fz F s.heap.size) s.heap H locs → lv_has ls 2 [(0, .ref mo), (1, .int t)] → W p l e ({ frames := 1, cells := 0, slots := 0, locals := 25 } : Room) s m args below meth c H locs (0) (0) QQ (F0 m 18 ls [.int (nI x9), .ref mo]) := by
    intro x9 hrf hx9 H locs ls hSep hS hl
    obtain ⟨Fk_1, hFk_1, hPk_1, hJk_1⟩ := hSep.cut (Pc := [pts mo (.inr (3, [.int rf, .ref aT, .int (nI T.length), .ref aN, .ref aL, .ref aP, .ref aD, .int (nI hs.length), .ref aK, .ref aZ, .ref aG, .ref aB, .int (nI bl), .int bp, .ref aS, .int (nI tl)]))]) (Pr := [pts aT (.inl (G.2.1 0, 20, .inl fT)), pts aN (.inl (G.2.1 0, 89, .inl fN)), pts aL (.inl (G.2.1 0, 89, .inl fL)), pts aP (.inl (G.2.1 0, 89, .inl fP)), pts aD (.inl (G.2.1 0, 1246, .inl fD)), pts aK (.inl (G.2.1 0, 178, .inl fK)), pts aZ (.inl (G.2.1 2, 2, .inl fZ)), pts aG (.inl (G.2.1 0, 18, .inl fG)), pts aB (.inl (G.2.1 0, 5, .inl fB)), pts aS (.inl (G.2.1 0, 5, .inl fS))]) (fun q h => Fz.new (Nat.le_trans hS.1 h)) [0] [1, 2, 3, 4, 5, 6, 7, 8, 9, 10] rfl rfl rfl rfl (by decide)
    refine c_i (va_runV (As := [.int (nI x9)]) (rest := []) ⟨hx, hb, hml, hown, hts⟩ (m_X4_refused l G Fk_1 H.size mo rf aT T.length aN aL aP aD hs.length aK aZ aG aB bl bp aS tl x9 (by omega)) (cwV 1 hts (lw_V q1535 q1537 qs21 q44 q1538) rfl rfl rfl (by decide +kernel) ⟨Nat.le_of_ble_eq_true rfl, Nat.le_of_ble_eq_true rfl⟩) (sp_preV hE hS hFk_1 hPk_1 trivial (sp_recv (ci := 3) hK (hSep.cel (k := 0) rfl) rfl)) rfl rfl hl.1 rfl (lv_room (Nat.le_of_ble_eq_true rfl)) dX4_leaves_18 ⟨by first | exact Nat.le_of_ble_eq_true rfl | omega | (dsimp only; omega), by first | exact Nat.le_of_ble_eq_true rfl | omega | (dsimp only; omega)⟩) hS hFk_1 hJk_1 (fun r_2 u_3 H locs hpk_1 hSep hS hzk_1 => ?_)
    obtain rfl : r_2 = (bI (decide (0 < x9))) := hpk_1
    refine W.cs (cells' := 0) (slots' := 0) rfl rfl ?_
    have hSep : Sep G.1 clA (Fz F s.heap.size) [pts aT (.inl (G.2.1 0, 20, .inl fT)), pts aN (.inl (G.2.1 0, 89, .inl fN)), pts aL (.inl (G.2.1 0, 89, .inl fL)), pts aP (.inl (G.2.1 0, 89, .inl fP)), pts aD (.inl (G.2.1 0, 1246, .inl fD)), pts aK (.inl (G.2.1 0, 178, .inl fK)), pts aZ (.inl (G.2.1 2, 2, .inl fZ)), pts aG (.inl (G.2.1 0, 18, .inl fG)), pts aB (.inl (G.2.1 0, 5, .inl fB)), pts aS (.inl (G.2.1 0, 5, .inl fS)), pts mo (.inr (3, [.int (nI x9), .ref aT, .int (nI T.length), .ref aN, .ref aL, .ref aP, .ref aD, .int (nI hs.length), .ref aK, .ref aZ, .ref aG, .ref aB, .int (nI bl), .int bp, .ref aS, .int (nI tl)]))] H := hSep
    refine b_if_eq (tgt := 26) hx hb dX4_leaves_21 (by decide) (fun c21 => ?_) (fun c21 => ?_)
    · obtain ⟨hx0, hgd⟩ := hrf.resolve_left (fun h => h.1 (by have := of_decide_eq_false c21; omega))
      subst hx0
      obtain ⟨t9, ht91, ht92, rfl⟩ := inR_n (n := 2) hgd
      refine lv_aload_n hx hb dX4_leaves_26 rfl (lv_at hl 0 rfl) ?_
      refine va_get (D := G.1) (ci := 3) (v := .ref aN) (C := RX4) (T := TX4) (N := 16) hx hb hts in_X4 hown hK (hSep.cel (k := 10) rfl) 0 rfl rfl 3 (by decide) (hts _ q1476) (fun _ h9 => h9) rfl dX4_leaves_27 ?_
      refine lv_iload_n hx hb dX4_leaves_30 rfl (lv_at hl 1 rfl) ?_
      have hFk_4 : ∀ q, Fz (fun _ => False) H.size q → (Fz F s.heap.size) q := fun q h => by rcases h with h | h; exact h.elim; exact Fz.new (Nat.le_trans hS.1 h)
      have hPk_4 : Sep G.1 clA (Fz (fun _ => False) H.size) [] H := sp_nil
      have hJk_4 := sp_nilJ (F := (fun _ => False)) hSep (fun _ => id) hFk_4
      refine c_i (va_runS (As := [.ref aN, .int (nI t9)]) (rest := []) ⟨hx, hb, hml, hown, hts⟩ (m_X4_isThere l G H.size aN fN g t9 (by first | assumption | omega) (by first | assumption | omega)) (va_cwS 2 hts (lw_S q1641 q1642 q44 q1643) rfl rfl rfl (by decide +kernel) ⟨Nat.le_of_ble_eq_true rfl, Nat.le_of_ble_eq_true rfl⟩) (sp_preS hE hS hFk_4 hPk_4 (hSep.cel (k := 1) rfl)) rfl rfl hl.1 rfl (lv_room (Nat.le_of_ble_eq_true rfl)) dX4_leaves_31 ⟨by first | exact Nat.le_of_ble_eq_true rfl | omega | (dsimp only; omega), by first | exact Nat.le_of_ble_eq_true rfl | omega | (dsimp only; omega)⟩) hS hFk_4 hJk_4 (fun r_5 u_6 H locs hpk_4 hSep hS hzk_4 => ?_)
      obtain rfl : r_5 = (bI (gThere g t9)) := hpk_4
      refine W.cs (cells' := 0) (slots' := 0) rfl rfl ?_
      have hSep : Sep G.1 clA (Fz F s.heap.size) [pts aT (.inl (G.2.1 0, 20, .inl fT)), pts aN (.inl (G.2.1 0, 89, .inl fN)), pts aL (.inl (G.2.1 0, 89, .inl fL)), pts aP (.inl (G.2.1 0, 89, .inl fP)), pts aD (.inl (G.2.1 0, 1246, .inl fD)), pts aK (.inl (G.2.1 0, 178, .inl fK)), pts aZ (.inl (G.2.1 2, 2, .inl fZ)), pts aG (.inl (G.2.1 0, 18, .inl fG)), pts aB (.inl (G.2.1 0, 5, .inl fB)), pts aS (.inl (G.2.1 0, 5, .inl fS)), pts mo (.inr (3, [.int (nI 0), .ref aT, .int (nI T.length), .ref aN, .ref aL, .ref aP, .ref aD, .int (nI hs.length), .ref aK, .ref aZ, .ref aG, .ref aB, .int (nI bl), .int bp, .ref aS, .int (nI tl)]))] H := hSep
      refine b_if_eq (tgt := 62) hx hb dX4_leaves_34 (by decide) (fun c34 => ?_) (fun c34 => ?_)
      · refine lv_iconst (v := (nI 0)) hx hb dX4_leaves_62 (by decide) ?_
        have hlv : lvB g t9 = false := by unfold lvB; first | (rw [show gThere g t9 = false from c34]; rfl) | (rw [decide_eq_false (Int32.not_le.mpr c55), Bool.and_false])
        have hop : oLeaves (g, hs, kp, T) (nI t9) = (0, lvB g t9, g, hs, kp, T) := by unfold oLeaves; rw [if_neg (by rw [hgd]; decide), nI_toInt ht92, Int.toNat_natCast]
        rw [hQ]
        exact r_z (r := (nI 0)) (u := ()) hx hb hr (by decide) (by rw [hop]; exact fun _ => (by rw [hlv]; rfl)) (by rw [hop]; exact mod_close (hSep.pick [10, 0, 1, 2, 3, 4, 5, 6, 7, 8, 9] rfl rfl) rfl rfl rfl hC) hS (by first | exact Nat.le_of_ble_eq_true rfl | omega | (dsimp only; omega)) (by first | exact Nat.le_of_ble_eq_true rfl | omega | (dsimp only; omega)) dX4_leaves_63 hlocks
      · refine lv_aload_n hx hb dX4_leaves_37 rfl (lv_at hl 0 rfl) ?_
        refine va_get (D := G.1) (ci := 3) (v := .ref aN) (C := RX4) (T := TX4) (N := 16) hx hb hts in_X4 hown hK (hSep.cel (k := 10) rfl) 0 rfl rfl 3 (by decide) (hts _ q1476) (fun _ h9 => h9) rfl dX4_leaves_38 ?_
        refine lv_bipush (v := (nI 14)) hx hb dX4_leaves_41 (by decide) ?_
        refine lv_iload_n hx hb dX4_leaves_43 rfl (lv_at hl 1 rfl) ?_
        refine n_iadd hx hb dX4_leaves_44 ?_
        refine n_iald (i := 14 + t9) hx hb hK (hSep.cel (k := 1) rfl) 0 rfl (by omega) (by omega) dX4_leaves_45 ?_
        refine n_eq (y := (g.1 (14 + t9))) (he.num (by omega)) ?_
        refine lv_iconst (v := (nI 1)) hx hb dX4_leaves_46 (by decide) ?_
        refine lv_iadd hx hb dX4_leaves_47 ?_
        refine lv_aload_n hx hb dX4_leaves_48 rfl (lv_at hl 0 rfl) ?_
        refine va_get (D := G.1) (ci := 3) (v := .ref aN) (C := RX4) (T := TX4) (N := 16) hx hb hts in_X4 hown hK (hSep.cel (k := 10) rfl) 0 rfl rfl 3 (by decide) (hts _ q1476) (fun _ h9 => h9) rfl dX4_leaves_49 ?_
        refine lv_bipush (v := (nI 8)) hx hb dX4_leaves_52 (by decide) ?_
        refine n_iald (i := 8) hx hb hK (hSep.cel (k := 1) rfl) 0 rfl (by omega) (by omega) dX4_leaves_54 ?_
        refine n_eq (y := (g.1 8)) (he.num (by omega)) ?_
        refine lv_icmp_lt (tgt := 62) hx hb dX4_leaves_55 (by decide) (fun c55 => ?_) (fun c55 => ?_)
        · refine lv_iconst (v := (nI 0)) hx hb dX4_leaves_62 (by decide) ?_
          have hlv : lvB g t9 = false := by unfold lvB; first | (rw [show gThere g t9 = false from c34]; rfl) | (rw [decide_eq_false (Int32.not_le.mpr c55), Bool.and_false])
          have hop : oLeaves (g, hs, kp, T) (nI t9) = (0, lvB g t9, g, hs, kp, T) := by unfold oLeaves; rw [if_neg (by rw [hgd]; decide), nI_toInt ht92, Int.toNat_natCast]
          rw [hQ]
          exact r_z (r := (nI 0)) (u := ()) hx hb hr (by decide) (by rw [hop]; exact fun _ => (by rw [hlv]; rfl)) (by rw [hop]; exact mod_close (hSep.pick [10, 0, 1, 2, 3, 4, 5, 6, 7, 8, 9] rfl rfl) rfl rfl rfl hC) hS (by first | exact Nat.le_of_ble_eq_true rfl | omega | (dsimp only; omega)) (by first | exact Nat.le_of_ble_eq_true rfl | omega | (dsimp only; omega)) dX4_leaves_63 hlocks
        · refine lv_iconst (v := (nI 1)) hx hb dX4_leaves_58 (by decide) ?_
          refine lv_goto (tgt := 63) hx hb dX4_leaves_59 (by decide) ?_
          have hlv : lvB g t9 = true := by unfold lvB; rw [c34, decide_eq_true (Int32.not_lt.mp c55)]; rfl
          have hop : oLeaves (g, hs, kp, T) (nI t9) = (0, lvB g t9, g, hs, kp, T) := by unfold oLeaves; rw [if_neg (by rw [hgd]; decide), nI_toInt ht92, Int.toNat_natCast]
          rw [hQ]
          exact r_z (r := (nI 1)) (u := ()) hx hb hr (by decide) (by rw [hop]; exact fun _ => (by rw [hlv]; rfl)) (by rw [hop]; exact mod_close (hSep.pick [10, 0, 1, 2, 3, 4, 5, 6, 7, 8, 9] rfl rfl) rfl rfl rfl hC) hS (by first | exact Nat.le_of_ble_eq_true rfl | omega | (dsimp only; omega)) (by first | exact Nat.le_of_ble_eq_true rfl | omega | (dsimp only; omega)) dX4_leaves_63 hlocks
    · obtain ⟨hx1, hop⟩ := hrf.resolve_right (fun h => absurd (of_decide_eq_true c21) (by rw [h.1]; decide))
      refine lv_iconst (v := (nI 0)) hx hb dX4_leaves_24 (by decide) ?_
      rw [hQ]
      exact r_z (r := (nI 0)) (u := ()) hx hb hr (by decide) (by rw [hop]; exact fun h => absurd h hx1) (by rw [hop]; exact mod_close (hSep.pick [10, 0, 1, 2, 3, 4, 5, 6, 7, 8, 9] rfl rfl) rfl rfl rfl hC) hS (by first | exact Nat.le_of_ble_eq_true rfl | omega | (dsimp only; omega)) (by first | exact Nat.le_of_ble_eq_true rfl | omega | (dsimp only; omega)) dX4_leaves_25 hlocks
  refine lv_aload_n hx hb dX4_leaves_0 rfl (lv_at hl 0 rfl) ?_
  refine lv_iload_n hx hb dX4_leaves_1 rfl (lv_at hl 1 rfl) ?_
  refine lv_i2l hx hb dX4_leaves_2 rfl ?_
  refine lv_lconst (v := 0) hx hb dX4_leaves_3 (by decide) ?_
  refine lv_ldc2 (v := 2) hx hb hown (hts _ q1598) dX4_leaves_4 ?_
  have hFk_7 : ∀ q, Fz (fun _ => False) s.heap.size q → (Fz F s.heap.size) q := fun q h => by rcases h with h | h; exact h.elim; exact Fz.new (Nat.le_trans hS.1 h)
  have hPk_7 : Sep G.1 clA (Fz (fun _ => False) s.heap.size) [] s.heap := sp_nil
  have hJk_7 := sp_nilJ (F := (fun _ => False)) hSep (fun _ => id) hFk_7
  refine c_i (va_runS (As := [.long t.toInt64, .long (0 : Int64), .long (2 : Int64)]) (rest := [.ref mo]) ⟨hx, hb, hml, hown, hts⟩ (m_X4_in l G s.heap.size t.toInt64 (0 : Int64) (2 : Int64) ) (va_cwS 3 hts (lw_S q1532 q1533 q44 q1534) rfl rfl rfl (by decide +kernel) ⟨Nat.le_of_ble_eq_true rfl, Nat.le_of_ble_eq_true rfl⟩) (sp_preS hE hS hFk_7 hPk_7 trivial) rfl rfl hl.1 rfl (lv_room (Nat.le_of_ble_eq_true rfl)) dX4_leaves_7 ⟨by first | exact Nat.le_of_ble_eq_true rfl | omega | (dsimp only; omega), by first | exact Nat.le_of_ble_eq_true rfl | omega | (dsimp only; omega)⟩) hS hFk_7 hJk_7 (fun r_8 u_9 H locs hpk_7 hSep hS hzk_7 => ?_)
  obtain rfl : r_8 = (bI (inR t.toInt64.toInt (0 : Int64).toInt (2 : Int64).toInt)) := hpk_7
  refine W.cs (cells' := 0) (slots' := 0) rfl rfl ?_
  have hSep : Sep G.1 clA (Fz F s.heap.size) [pts mo (.inr (3, [.int rf, .ref aT, .int (nI T.length), .ref aN, .ref aL, .ref aP, .ref aD, .int (nI hs.length), .ref aK, .ref aZ, .ref aG, .ref aB, .int (nI bl), .int bp, .ref aS, .int (nI tl)])), pts aT (.inl (G.2.1 0, 20, .inl fT)), pts aN (.inl (G.2.1 0, 89, .inl fN)), pts aL (.inl (G.2.1 0, 89, .inl fL)), pts aP (.inl (G.2.1 0, 89, .inl fP)), pts aD (.inl (G.2.1 0, 1246, .inl fD)), pts aK (.inl (G.2.1 0, 178, .inl fK)), pts aZ (.inl (G.2.1 2, 2, .inl fZ)), pts aG (.inl (G.2.1 0, 18, .inl fG)), pts aB (.inl (G.2.1 0, 5, .inl fB)), pts aS (.inl (G.2.1 0, 5, .inl fS))] H := hSep
  refine n_eq (y := (bI (inR t.toInt 0 2))) (by rw [Int32.toInt_toInt64]; rfl) ?_
  refine b_if_eq (tgt := 17) hx hb dX4_leaves_10 (by decide) (fun c10 => ?_) (fun c10 => ?_)
  · refine lv_iconst (v := (nI 1)) hx hb dX4_leaves_17 (by decide) ?_
    exact L18 1 (Or.inl ⟨by decide, by unfold oLeaves; rw [if_pos c10]⟩) (by decide) _ _ _ hSep hS (lv_sub hl [0, 1] rfl)
  · refine lv_iconst (v := (nI 0)) hx hb dX4_leaves_13 (by decide) ?_
    refine lv_goto (tgt := 18) hx hb dX4_leaves_14 (by decide) ?_
    exact L18 0 (Or.inr ⟨rfl, c10⟩) (by decide) _ _ _ hSep hS (lv_sub hl [0, 1] rfl)

set_option maxHeartbeats 600000 in
set_option maxRecDepth 100000 in
theorem m_X4_save (l : Launch) (G : EVT) (F : Nat → Prop) (sz : Nat) (mo : Nat) (rf : Int32) (σ : MS) (x : Int32)  : Met l yX4_save (ws_ yX4_save cX4_save 2 (some .int)) ({ frames := 1, cells := 0, slots := 0, locals := 25 } : Room) (SPc G F sz [.ref mo, .int x] [modA G mo rf σ] (fun _ => True)) (SQi G F sz (fun (r : Int32) (u : Unit) => (oSave σ x).1 = 0 → r = (oSave σ x).2.1) (fun (u : Unit) => [modA G mo (nI (oSave σ x).1) (oSave σ x).2.2])) (0) (0) (Fz F sz) := by
  refine sp_of RX4 (by decide) rfl (Nat.le_of_ble_eq_true rfl) ?_
  intro p e s m args below meth c ls QQ hx hb hr hts hown hlocks hml hnm hsz hSep hΦ hE hS hl hQ
  subst hsz
  have hK := hE.1
  have hl : lv_has ls 2 [(0, .ref mo), (1, .int x)] := hl
  obtain ⟨g, hs, kp, T⟩ := σ
  obtain ⟨aT, aN, aL, aP, aD, aK, aZ, aG, aB, aS, bl, bp, tl, fT, fN, fL, fP, fD, fK, fZ, fG, fB, fS, hC, hSep⟩ := mod_unpk hSep
  have hg : gV g := hC.1.1
  have ho : gOk g := hC.1.1.1
  have he : Enc fN g := hC.1.2
  have hT : Pre fT T := hC.2.2.2.1
  have hT20 : T.length ≤ 20 := hC.2.2.2.2.1
  have hT256 : ∀ w ∈ T, w < 256 := hC.2.2.2.2.2
  have hD14 : hs.length ≤ 14 := hC.2.1.1
  have L16 : ∀ (x9 : Nat) , ((x9 ≠ 0 ∧ oSave (g, hs, kp, T) x = (x9, 0, (g, hs, kp, T))) ∨ (x9 = 0 ∧ inR x.toInt 0 1 = true)) → (x9 < 3) → ∀ (H : Heap) (locs : List Loc) (ls : Array Slot), Sep G.1 clA (Fz F s.heap.size) [pts mo (.inr (3, [.int rf, .ref aT, .int (nI T.length), .ref aN, .ref aL, .ref aP, .ref aD, .int (nI hs.length), .ref aK, .ref aZ, .ref aG, .ref aB, .int (nI bl), .int bp, .ref aS, .int (nI tl)])), pts aT (.inl (G.2.1 0, 20, .inl fT)), pts aN (.inl (G.2.1 0, 89, .inl fN)), pts aL (.inl (G.2.1 0, 89, .inl fL)), pts aP (.inl (G.2.1 0, 89, .inl fP)), pts aD (.inl (G.2.1 0, 1246, .inl fD)), pts aK (.inl (G.2.1 0, 178, .inl fK)), pts aZ (.inl (G.2.1 2, 2, .inl fZ)), pts aG (.inl (G.2.1 0, 18, .inl fG)), pts aB (.inl (G.2.1 0, 5, .inl fB)), pts aS (.inl (G.2.1 0, 5, .inl fS))] H → va_S (Fz F s.heap.size) s.heap H locs → lv_has ls 2 [(0, .ref mo), (1, .int x)] → W p l e ({ frames := 1, cells := 0, slots := 0, locals := 25 } : Room) s m args below meth c H locs (0) (0) QQ (F0 m 16 ls [.int (nI x9), .ref mo]) := by
    intro x9 hrf hx9 H locs ls hSep hS hl
    obtain ⟨Fk_1, hFk_1, hPk_1, hJk_1⟩ := hSep.cut (Pc := [pts mo (.inr (3, [.int rf, .ref aT, .int (nI T.length), .ref aN, .ref aL, .ref aP, .ref aD, .int (nI hs.length), .ref aK, .ref aZ, .ref aG, .ref aB, .int (nI bl), .int bp, .ref aS, .int (nI tl)]))]) (Pr := [pts aT (.inl (G.2.1 0, 20, .inl fT)), pts aN (.inl (G.2.1 0, 89, .inl fN)), pts aL (.inl (G.2.1 0, 89, .inl fL)), pts aP (.inl (G.2.1 0, 89, .inl fP)), pts aD (.inl (G.2.1 0, 1246, .inl fD)), pts aK (.inl (G.2.1 0, 178, .inl fK)), pts aZ (.inl (G.2.1 2, 2, .inl fZ)), pts aG (.inl (G.2.1 0, 18, .inl fG)), pts aB (.inl (G.2.1 0, 5, .inl fB)), pts aS (.inl (G.2.1 0, 5, .inl fS))]) (fun q h => Fz.new (Nat.le_trans hS.1 h)) [0] [1, 2, 3, 4, 5, 6, 7, 8, 9, 10] rfl rfl rfl rfl (by decide)
    refine c_i (va_runV (As := [.int (nI x9)]) (rest := []) ⟨hx, hb, hml, hown, hts⟩ (m_X4_refused l G Fk_1 H.size mo rf aT T.length aN aL aP aD hs.length aK aZ aG aB bl bp aS tl x9 (by omega)) (cwV 1 hts (lw_V q1535 q1537 qs21 q44 q1538) rfl rfl rfl (by decide +kernel) ⟨Nat.le_of_ble_eq_true rfl, Nat.le_of_ble_eq_true rfl⟩) (sp_preV hE hS hFk_1 hPk_1 trivial (sp_recv (ci := 3) hK (hSep.cel (k := 0) rfl) rfl)) rfl rfl hl.1 rfl (lv_room (Nat.le_of_ble_eq_true rfl)) dX4_save_16 ⟨by first | exact Nat.le_of_ble_eq_true rfl | omega | (dsimp only; omega), by first | exact Nat.le_of_ble_eq_true rfl | omega | (dsimp only; omega)⟩) hS hFk_1 hJk_1 (fun r_2 u_3 H locs hpk_1 hSep hS hzk_1 => ?_)
    obtain rfl : r_2 = (bI (decide (0 < x9))) := hpk_1
    refine W.cs (cells' := 0) (slots' := 0) rfl rfl ?_
    have hSep : Sep G.1 clA (Fz F s.heap.size) [pts aT (.inl (G.2.1 0, 20, .inl fT)), pts aN (.inl (G.2.1 0, 89, .inl fN)), pts aL (.inl (G.2.1 0, 89, .inl fL)), pts aP (.inl (G.2.1 0, 89, .inl fP)), pts aD (.inl (G.2.1 0, 1246, .inl fD)), pts aK (.inl (G.2.1 0, 178, .inl fK)), pts aZ (.inl (G.2.1 2, 2, .inl fZ)), pts aG (.inl (G.2.1 0, 18, .inl fG)), pts aB (.inl (G.2.1 0, 5, .inl fB)), pts aS (.inl (G.2.1 0, 5, .inl fS)), pts mo (.inr (3, [.int (nI x9), .ref aT, .int (nI T.length), .ref aN, .ref aL, .ref aP, .ref aD, .int (nI hs.length), .ref aK, .ref aZ, .ref aG, .ref aB, .int (nI bl), .int bp, .ref aS, .int (nI tl)]))] H := hSep
    refine b_if_eq (tgt := 24) hx hb dX4_save_19 (by decide) (fun c19 => ?_) (fun c19 => ?_)
    · obtain ⟨hx0, hgd⟩ := hrf.resolve_left (fun h => h.1 (by have := of_decide_eq_false c19; omega))
      subst hx0
      obtain ⟨n9, hn91, hn92, rfl⟩ := inR_n (n := 1) hgd
      refine lv_aload_n hx hb dX4_save_24 rfl (lv_at hl 0 rfl) ?_
      refine va_get (D := G.1) (ci := 3) (v := .ref aN) (C := RX4) (T := TX4) (N := 16) hx hb hts in_X4 hown hK (hSep.cel (k := 10) rfl) 0 rfl rfl 3 (by decide) (hts _ q1476) (fun _ h9 => h9) rfl dX4_save_25 ?_
      refine lv_iconst (v := (nI 0)) hx hb dX4_save_28 (by decide) ?_
      refine lv_aload_n hx hb dX4_save_29 rfl (lv_at hl 0 rfl) ?_
      refine va_get (D := G.1) (ci := 3) (v := .ref aK) (C := RX4) (T := TX4) (N := 16) hx hb hts in_X4 hown hK (hSep.cel (k := 10) rfl) 0 rfl rfl 8 (by decide) (hts _ q1481) (fun _ h9 => h9) rfl dX4_save_30 ?_
      refine lv_bipush (v := (nI 89)) hx hb dX4_save_33 (by decide) ?_
      refine lv_iload_n hx hb dX4_save_35 rfl (lv_at hl 1 rfl) ?_
      refine n_imul hx hb dX4_save_36 ?_
      obtain ⟨Fk_4, hFk_4, hPk_4, hJk_4⟩ := hSep.cut (Pc := [pts aN (.inl (G.2.1 0, 89, .inl fN)), pts aK (.inl (G.2.1 0, 178, .inl fK))]) (Pr := [pts aT (.inl (G.2.1 0, 20, .inl fT)), pts aL (.inl (G.2.1 0, 89, .inl fL)), pts aP (.inl (G.2.1 0, 89, .inl fP)), pts aD (.inl (G.2.1 0, 1246, .inl fD)), pts aZ (.inl (G.2.1 2, 2, .inl fZ)), pts aG (.inl (G.2.1 0, 18, .inl fG)), pts aB (.inl (G.2.1 0, 5, .inl fB)), pts aS (.inl (G.2.1 0, 5, .inl fS)), pts mo (.inr (3, [.int (nI 0), .ref aT, .int (nI T.length), .ref aN, .ref aL, .ref aP, .ref aD, .int (nI hs.length), .ref aK, .ref aZ, .ref aG, .ref aB, .int (nI bl), .int bp, .ref aS, .int (nI tl)]))]) (fun q h => Fz.new (Nat.le_trans hS.1 h)) [1, 5] [0, 2, 3, 4, 6, 7, 8, 9, 10] rfl rfl rfl rfl (by decide)
      refine c_v (va_runS (As := [.ref aN, .int (nI 0), .ref aK, .int (nI (89 * n9))]) (rest := []) ⟨hx, hb, hml, hown, hts⟩ (m_X4_copyState l G Fk_4 H.size aN 89 fN 0 aK 178 fK (89 * n9) (by decide) (by omega) (by decide) (by decide)) (va_cwS 4 hts (lw_S q1616 q1617 q44 q1618) rfl rfl rfl (by decide +kernel) ⟨Nat.le_of_ble_eq_true rfl, Nat.le_of_ble_eq_true rfl⟩) (sp_preS hE hS hFk_4 hPk_4 trivial) rfl rfl hl.1 rfl (lv_room (Nat.le_of_ble_eq_true rfl)) dX4_save_37 ⟨by first | exact Nat.le_of_ble_eq_true rfl | omega | (dsimp only; omega), by first | exact Nat.le_of_ble_eq_true rfl | omega | (dsimp only; omega)⟩) hS hFk_4 hJk_4 (fun u_6 H locs hpk_4 hSep hS hzk_4 => ?_)
      refine W.cs (cells' := 0) (slots' := 0) rfl rfl ?_
      have hSep : Sep G.1 clA (Fz F s.heap.size) [pts aT (.inl (G.2.1 0, 20, .inl fT)), pts aL (.inl (G.2.1 0, 89, .inl fL)), pts aP (.inl (G.2.1 0, 89, .inl fP)), pts aD (.inl (G.2.1 0, 1246, .inl fD)), pts aZ (.inl (G.2.1 2, 2, .inl fZ)), pts aG (.inl (G.2.1 0, 18, .inl fG)), pts aB (.inl (G.2.1 0, 5, .inl fB)), pts aS (.inl (G.2.1 0, 5, .inl fS)), pts mo (.inr (3, [.int (nI 0), .ref aT, .int (nI T.length), .ref aN, .ref aL, .ref aP, .ref aD, .int (nI hs.length), .ref aK, .ref aZ, .ref aG, .ref aB, .int (nI bl), .int bp, .ref aS, .int (nI tl)])), pts aN (.inl (G.2.1 0, 89, .inl fN)), pts aK (.inl (G.2.1 0, 178, .inl (va_cpy fN fK 0 (89 * n9) 89)))] H := hSep
      refine lv_aload_n hx hb dX4_save_40 rfl (lv_at hl 0 rfl) ?_
      refine va_get (D := G.1) (ci := 3) (v := .ref aZ) (C := RX4) (T := TX4) (N := 16) hx hb hts in_X4 hown hK (hSep.cel (k := 8) rfl) 0 rfl rfl 9 (by decide) (hts _ q1482) (fun _ h9 => h9) rfl dX4_save_41 ?_
      refine lv_iload_n hx hb dX4_save_44 rfl (lv_at hl 1 rfl) ?_
      refine lv_iconst (v := (nI 1)) hx hb dX4_save_45 (by decide) ?_
      refine n_zast (i := n9) (x := (nI 1)) (y := (bI true)) hx hb hK hSep hS 4 rfl 2 rfl (by omega) (by omega) (by decide) dX4_save_46 (fun H locs hSep hS => ?_)
      have hSep : Sep G.1 clA (Fz F s.heap.size) [pts aT (.inl (G.2.1 0, 20, .inl fT)), pts aL (.inl (G.2.1 0, 89, .inl fL)), pts aP (.inl (G.2.1 0, 89, .inl fP)), pts aD (.inl (G.2.1 0, 1246, .inl fD)), pts aZ (.inl (G.2.1 2, 2, .inl (upd fZ n9 (bI true)))), pts aG (.inl (G.2.1 0, 18, .inl fG)), pts aB (.inl (G.2.1 0, 5, .inl fB)), pts aS (.inl (G.2.1 0, 5, .inl fS)), pts mo (.inr (3, [.int (nI 0), .ref aT, .int (nI T.length), .ref aN, .ref aL, .ref aP, .ref aD, .int (nI hs.length), .ref aK, .ref aZ, .ref aG, .ref aB, .int (nI bl), .int bp, .ref aS, .int (nI tl)])), pts aN (.inl (G.2.1 0, 89, .inl fN)), pts aK (.inl (G.2.1 0, 178, .inl (va_cpy fN fK 0 (89 * n9) 89)))] H := hSep
      refine lv_aload_n hx hb dX4_save_47 rfl (lv_at hl 0 rfl) ?_
      refine va_get (D := G.1) (ci := 3) (v := .ref aN) (C := RX4) (T := TX4) (N := 16) hx hb hts in_X4 hown hK (hSep.cel (k := 8) rfl) 0 rfl rfl 3 (by decide) (hts _ q1476) (fun _ h9 => h9) rfl dX4_save_48 ?_
      refine lv_iconst (v := (nI 3)) hx hb dX4_save_51 (by decide) ?_
      refine n_iald (i := 3) hx hb hK (hSep.cel (k := 9) rfl) 0 rfl (by omega) (by omega) dX4_save_52 ?_
      refine n_eq (y := (g.1 3)) (he.num (by decide)) ?_
      have hop : oSave (g, hs, kp, T) (nI n9) = (0, g.1 3, g, hs, fun t => if t = n9 then some g else kp t, T) := by unfold oSave; rw [if_neg (by rw [hgd]; decide), nI_toInt hn92, Int.toNat_natCast]
      rw [hQ]
      exact r_i (r := (g.1 3)) (u := ()) hx hb hr (by rw [hop]; exact fun _ => rfl) (by rw [hop]; exact mod_close (hSep.pick [8, 0, 9, 1, 2, 3, 10, 4, 5, 6, 7] rfl rfl) rfl rfl rfl (⟨hC.1, hC.2.1, keptC.put hC.2.2.1 (by omega) hg he, hC.2.2.2⟩)) hS (by first | exact Nat.le_of_ble_eq_true rfl | omega | (dsimp only; omega)) (by first | exact Nat.le_of_ble_eq_true rfl | omega | (dsimp only; omega)) dX4_save_53 hlocks
    · obtain ⟨hx1, hop⟩ := hrf.resolve_right (fun h => absurd (of_decide_eq_true c19) (by rw [h.1]; decide))
      refine lv_iconst (v := (nI 0)) hx hb dX4_save_22 (by decide) ?_
      rw [hQ]
      exact r_i (r := (nI 0)) (u := ()) hx hb hr (by rw [hop]; exact fun h => absurd h hx1) (by rw [hop]; exact mod_close (hSep.pick [10, 0, 1, 2, 3, 4, 5, 6, 7, 8, 9] rfl rfl) rfl rfl rfl hC) hS (by first | exact Nat.le_of_ble_eq_true rfl | omega | (dsimp only; omega)) (by first | exact Nat.le_of_ble_eq_true rfl | omega | (dsimp only; omega)) dX4_save_23 hlocks
  refine lv_aload_n hx hb dX4_save_0 rfl (lv_at hl 0 rfl) ?_
  refine lv_iload_n hx hb dX4_save_1 rfl (lv_at hl 1 rfl) ?_
  refine lv_i2l hx hb dX4_save_2 rfl ?_
  refine lv_lconst (v := 0) hx hb dX4_save_3 (by decide) ?_
  refine lv_lconst (v := 1) hx hb dX4_save_4 (by decide) ?_
  have hFk_7 : ∀ q, Fz (fun _ => False) s.heap.size q → (Fz F s.heap.size) q := fun q h => by rcases h with h | h; exact h.elim; exact Fz.new (Nat.le_trans hS.1 h)
  have hPk_7 : Sep G.1 clA (Fz (fun _ => False) s.heap.size) [] s.heap := sp_nil
  have hJk_7 := sp_nilJ (F := (fun _ => False)) hSep (fun _ => id) hFk_7
  refine c_i (va_runS (As := [.long x.toInt64, .long (0 : Int64), .long (1 : Int64)]) (rest := [.ref mo]) ⟨hx, hb, hml, hown, hts⟩ (m_X4_in l G s.heap.size x.toInt64 (0 : Int64) (1 : Int64) ) (va_cwS 3 hts (lw_S q1532 q1533 q44 q1534) rfl rfl rfl (by decide +kernel) ⟨Nat.le_of_ble_eq_true rfl, Nat.le_of_ble_eq_true rfl⟩) (sp_preS hE hS hFk_7 hPk_7 trivial) rfl rfl hl.1 rfl (lv_room (Nat.le_of_ble_eq_true rfl)) dX4_save_5 ⟨by first | exact Nat.le_of_ble_eq_true rfl | omega | (dsimp only; omega), by first | exact Nat.le_of_ble_eq_true rfl | omega | (dsimp only; omega)⟩) hS hFk_7 hJk_7 (fun r_8 u_9 H locs hpk_7 hSep hS hzk_7 => ?_)
  obtain rfl : r_8 = (bI (inR x.toInt64.toInt (0 : Int64).toInt (1 : Int64).toInt)) := hpk_7
  refine W.cs (cells' := 0) (slots' := 0) rfl rfl ?_
  have hSep : Sep G.1 clA (Fz F s.heap.size) [pts mo (.inr (3, [.int rf, .ref aT, .int (nI T.length), .ref aN, .ref aL, .ref aP, .ref aD, .int (nI hs.length), .ref aK, .ref aZ, .ref aG, .ref aB, .int (nI bl), .int bp, .ref aS, .int (nI tl)])), pts aT (.inl (G.2.1 0, 20, .inl fT)), pts aN (.inl (G.2.1 0, 89, .inl fN)), pts aL (.inl (G.2.1 0, 89, .inl fL)), pts aP (.inl (G.2.1 0, 89, .inl fP)), pts aD (.inl (G.2.1 0, 1246, .inl fD)), pts aK (.inl (G.2.1 0, 178, .inl fK)), pts aZ (.inl (G.2.1 2, 2, .inl fZ)), pts aG (.inl (G.2.1 0, 18, .inl fG)), pts aB (.inl (G.2.1 0, 5, .inl fB)), pts aS (.inl (G.2.1 0, 5, .inl fS))] H := hSep
  refine n_eq (y := (bI (inR x.toInt 0 1))) (by rw [Int32.toInt_toInt64]; rfl) ?_
  refine b_if_eq (tgt := 15) hx hb dX4_save_8 (by decide) (fun c8 => ?_) (fun c8 => ?_)
  · refine lv_iconst (v := (nI 1)) hx hb dX4_save_15 (by decide) ?_
    exact L16 1 (Or.inl ⟨by decide, by unfold oSave; rw [if_pos c8]⟩) (by decide) _ _ _ hSep hS (lv_sub hl [0, 1] rfl)
  · refine lv_iconst (v := (nI 0)) hx hb dX4_save_11 (by decide) ?_
    refine lv_goto (tgt := 16) hx hb dX4_save_12 (by decide) ?_
    exact L16 0 (Or.inr ⟨rfl, c8⟩) (by decide) _ _ _ hSep hS (lv_sub hl [0, 1] rfl)

set_option maxHeartbeats 600000 in
set_option maxRecDepth 100000 in
theorem m_X4_restore (l : Launch) (G : EVT) (F : Nat → Prop) (sz : Nat) (mo : Nat) (rf : Int32) (σ : MS) (x : Int32)  : Met l yX4_restore (ws_ yX4_restore cX4_restore 2 (some .int)) ({ frames := 1, cells := 0, slots := 0, locals := 25 } : Room) (SPc G F sz [.ref mo, .int x] [modA G mo rf σ] (fun _ => True)) (SQi G F sz (fun (r : Int32) (u : Unit) => (oRestore σ x).1 = 0 → r = (oRestore σ x).2.1) (fun (u : Unit) => [modA G mo (nI (oRestore σ x).1) (oRestore σ x).2.2])) (0) (0) (Fz F sz) := by
  refine sp_of RX4 (by decide) rfl (Nat.le_of_ble_eq_true rfl) ?_
  intro p e s m args below meth c ls QQ hx hb hr hts hown hlocks hml hnm hsz hSep hΦ hE hS hl hQ
  subst hsz
  have hK := hE.1
  have hl : lv_has ls 2 [(0, .ref mo), (1, .int x)] := hl
  obtain ⟨g, hs, kp, T⟩ := σ
  obtain ⟨aT, aN, aL, aP, aD, aK, aZ, aG, aB, aS, bl, bp, tl, fT, fN, fL, fP, fD, fK, fZ, fG, fB, fS, hC, hSep⟩ := mod_unpk hSep
  have hg : gV g := hC.1.1
  have ho : gOk g := hC.1.1.1
  have he : Enc fN g := hC.1.2
  have hT : Pre fT T := hC.2.2.2.1
  have hT20 : T.length ≤ 20 := hC.2.2.2.2.1
  have hT256 : ∀ w ∈ T, w < 256 := hC.2.2.2.2.2
  have hD14 : hs.length ≤ 14 := hC.2.1.1
  have L29 : ∀ (x9 : Nat) , ((x9 ≠ 0 ∧ oRestore (g, hs, kp, T) x = (x9, 0, (g, hs, kp, T))) ∨ (x9 = 0 ∧ (inR x.toInt 0 1 = true ∧ ∃ g2, kp x.toInt.toNat = some g2))) → (x9 < 3) → ∀ (H : Heap) (locs : List Loc) (ls : Array Slot), Sep G.1 clA (Fz F s.heap.size) [pts mo (.inr (3, [.int rf, .ref aT, .int (nI T.length), .ref aN, .ref aL, .ref aP, .ref aD, .int (nI hs.length), .ref aK, .ref aZ, .ref aG, .ref aB, .int (nI bl), .int bp, .ref aS, .int (nI tl)])), pts aT (.inl (G.2.1 0, 20, .inl fT)), pts aN (.inl (G.2.1 0, 89, .inl fN)), pts aL (.inl (G.2.1 0, 89, .inl fL)), pts aP (.inl (G.2.1 0, 89, .inl fP)), pts aD (.inl (G.2.1 0, 1246, .inl fD)), pts aK (.inl (G.2.1 0, 178, .inl fK)), pts aZ (.inl (G.2.1 2, 2, .inl fZ)), pts aG (.inl (G.2.1 0, 18, .inl fG)), pts aB (.inl (G.2.1 0, 5, .inl fB)), pts aS (.inl (G.2.1 0, 5, .inl fS))] H → va_S (Fz F s.heap.size) s.heap H locs → lv_has ls 2 [(0, .ref mo), (1, .int x)] → W p l e ({ frames := 1, cells := 0, slots := 0, locals := 25 } : Room) s m args below meth c H locs (0) (0) QQ (F0 m 29 ls [.int (nI x9), .ref mo]) := by
    intro x9 hrf hx9 H locs ls hSep hS hl
    obtain ⟨Fk_1, hFk_1, hPk_1, hJk_1⟩ := hSep.cut (Pc := [pts mo (.inr (3, [.int rf, .ref aT, .int (nI T.length), .ref aN, .ref aL, .ref aP, .ref aD, .int (nI hs.length), .ref aK, .ref aZ, .ref aG, .ref aB, .int (nI bl), .int bp, .ref aS, .int (nI tl)]))]) (Pr := [pts aT (.inl (G.2.1 0, 20, .inl fT)), pts aN (.inl (G.2.1 0, 89, .inl fN)), pts aL (.inl (G.2.1 0, 89, .inl fL)), pts aP (.inl (G.2.1 0, 89, .inl fP)), pts aD (.inl (G.2.1 0, 1246, .inl fD)), pts aK (.inl (G.2.1 0, 178, .inl fK)), pts aZ (.inl (G.2.1 2, 2, .inl fZ)), pts aG (.inl (G.2.1 0, 18, .inl fG)), pts aB (.inl (G.2.1 0, 5, .inl fB)), pts aS (.inl (G.2.1 0, 5, .inl fS))]) (fun q h => Fz.new (Nat.le_trans hS.1 h)) [0] [1, 2, 3, 4, 5, 6, 7, 8, 9, 10] rfl rfl rfl rfl (by decide)
    refine c_i (va_runV (As := [.int (nI x9)]) (rest := []) ⟨hx, hb, hml, hown, hts⟩ (m_X4_refused l G Fk_1 H.size mo rf aT T.length aN aL aP aD hs.length aK aZ aG aB bl bp aS tl x9 (by omega)) (cwV 1 hts (lw_V q1535 q1537 qs21 q44 q1538) rfl rfl rfl (by decide +kernel) ⟨Nat.le_of_ble_eq_true rfl, Nat.le_of_ble_eq_true rfl⟩) (sp_preV hE hS hFk_1 hPk_1 trivial (sp_recv (ci := 3) hK (hSep.cel (k := 0) rfl) rfl)) rfl rfl hl.1 rfl (lv_room (Nat.le_of_ble_eq_true rfl)) dX4_restore_29 ⟨by first | exact Nat.le_of_ble_eq_true rfl | omega | (dsimp only; omega), by first | exact Nat.le_of_ble_eq_true rfl | omega | (dsimp only; omega)⟩) hS hFk_1 hJk_1 (fun r_2 u_3 H locs hpk_1 hSep hS hzk_1 => ?_)
    obtain rfl : r_2 = (bI (decide (0 < x9))) := hpk_1
    refine W.cs (cells' := 0) (slots' := 0) rfl rfl ?_
    have hSep : Sep G.1 clA (Fz F s.heap.size) [pts aT (.inl (G.2.1 0, 20, .inl fT)), pts aN (.inl (G.2.1 0, 89, .inl fN)), pts aL (.inl (G.2.1 0, 89, .inl fL)), pts aP (.inl (G.2.1 0, 89, .inl fP)), pts aD (.inl (G.2.1 0, 1246, .inl fD)), pts aK (.inl (G.2.1 0, 178, .inl fK)), pts aZ (.inl (G.2.1 2, 2, .inl fZ)), pts aG (.inl (G.2.1 0, 18, .inl fG)), pts aB (.inl (G.2.1 0, 5, .inl fB)), pts aS (.inl (G.2.1 0, 5, .inl fS)), pts mo (.inr (3, [.int (nI x9), .ref aT, .int (nI T.length), .ref aN, .ref aL, .ref aP, .ref aD, .int (nI hs.length), .ref aK, .ref aZ, .ref aG, .ref aB, .int (nI bl), .int bp, .ref aS, .int (nI tl)]))] H := hSep
    refine b_if_eq (tgt := 37) hx hb dX4_restore_32 (by decide) (fun c32 => ?_) (fun c32 => ?_)
    · obtain ⟨hx0, hgd⟩ := hrf.resolve_left (fun h => h.1 (by have := of_decide_eq_false c32; omega))
      subst hx0
      obtain ⟨n9, hn91, hn92, rfl⟩ := inR_n (n := 1) hgd.1
      obtain ⟨g2, hg2⟩ := hgd.2
      rw [nI_toInt hn92, Int.toNat_natCast] at hg2
      have hE2 := keptC.get (fN := fN) hC.2.2.1 (by omega) hg2
      refine lv_aload_n hx hb dX4_restore_37 rfl (lv_at hl 0 rfl) ?_
      refine va_get (D := G.1) (ci := 3) (v := .ref aK) (C := RX4) (T := TX4) (N := 16) hx hb hts in_X4 hown hK (hSep.cel (k := 10) rfl) 0 rfl rfl 8 (by decide) (hts _ q1481) (fun _ h9 => h9) rfl dX4_restore_38 ?_
      refine lv_bipush (v := (nI 89)) hx hb dX4_restore_41 (by decide) ?_
      refine lv_iload_n hx hb dX4_restore_43 rfl (lv_at hl 1 rfl) ?_
      refine n_imul hx hb dX4_restore_44 ?_
      refine lv_aload_n hx hb dX4_restore_45 rfl (lv_at hl 0 rfl) ?_
      refine va_get (D := G.1) (ci := 3) (v := .ref aN) (C := RX4) (T := TX4) (N := 16) hx hb hts in_X4 hown hK (hSep.cel (k := 10) rfl) 0 rfl rfl 3 (by decide) (hts _ q1476) (fun _ h9 => h9) rfl dX4_restore_46 ?_
      refine lv_iconst (v := (nI 0)) hx hb dX4_restore_49 (by decide) ?_
      obtain ⟨Fk_4, hFk_4, hPk_4, hJk_4⟩ := hSep.cut (Pc := [pts aK (.inl (G.2.1 0, 178, .inl fK)), pts aN (.inl (G.2.1 0, 89, .inl fN))]) (Pr := [pts aT (.inl (G.2.1 0, 20, .inl fT)), pts aL (.inl (G.2.1 0, 89, .inl fL)), pts aP (.inl (G.2.1 0, 89, .inl fP)), pts aD (.inl (G.2.1 0, 1246, .inl fD)), pts aZ (.inl (G.2.1 2, 2, .inl fZ)), pts aG (.inl (G.2.1 0, 18, .inl fG)), pts aB (.inl (G.2.1 0, 5, .inl fB)), pts aS (.inl (G.2.1 0, 5, .inl fS)), pts mo (.inr (3, [.int (nI 0), .ref aT, .int (nI T.length), .ref aN, .ref aL, .ref aP, .ref aD, .int (nI hs.length), .ref aK, .ref aZ, .ref aG, .ref aB, .int (nI bl), .int bp, .ref aS, .int (nI tl)]))]) (fun q h => Fz.new (Nat.le_trans hS.1 h)) [5, 1] [0, 2, 3, 4, 6, 7, 8, 9, 10] rfl rfl rfl rfl (by decide)
      refine c_v (va_runS (As := [.ref aK, .int (nI (89 * n9)), .ref aN, .int (nI 0)]) (rest := []) ⟨hx, hb, hml, hown, hts⟩ (m_X4_copyState l G Fk_4 H.size aK 178 fK (89 * n9) aN 89 fN 0 (by omega) (by decide) (by decide) (by decide)) (va_cwS 4 hts (lw_S q1616 q1617 q44 q1618) rfl rfl rfl (by decide +kernel) ⟨Nat.le_of_ble_eq_true rfl, Nat.le_of_ble_eq_true rfl⟩) (sp_preS hE hS hFk_4 hPk_4 trivial) rfl rfl hl.1 rfl (lv_room (Nat.le_of_ble_eq_true rfl)) dX4_restore_50 ⟨by first | exact Nat.le_of_ble_eq_true rfl | omega | (dsimp only; omega), by first | exact Nat.le_of_ble_eq_true rfl | omega | (dsimp only; omega)⟩) hS hFk_4 hJk_4 (fun u_6 H locs hpk_4 hSep hS hzk_4 => ?_)
      refine W.cs (cells' := 0) (slots' := 0) rfl rfl ?_
      have hSep : Sep G.1 clA (Fz F s.heap.size) [pts aT (.inl (G.2.1 0, 20, .inl fT)), pts aL (.inl (G.2.1 0, 89, .inl fL)), pts aP (.inl (G.2.1 0, 89, .inl fP)), pts aD (.inl (G.2.1 0, 1246, .inl fD)), pts aZ (.inl (G.2.1 2, 2, .inl fZ)), pts aG (.inl (G.2.1 0, 18, .inl fG)), pts aB (.inl (G.2.1 0, 5, .inl fB)), pts aS (.inl (G.2.1 0, 5, .inl fS)), pts mo (.inr (3, [.int (nI 0), .ref aT, .int (nI T.length), .ref aN, .ref aL, .ref aP, .ref aD, .int (nI hs.length), .ref aK, .ref aZ, .ref aG, .ref aB, .int (nI bl), .int bp, .ref aS, .int (nI tl)])), pts aK (.inl (G.2.1 0, 178, .inl fK)), pts aN (.inl (G.2.1 0, 89, .inl (va_cpy fK fN (89 * n9) 0 89)))] H := hSep
      refine lv_aload_n hx hb dX4_restore_53 rfl (lv_at hl 0 rfl) ?_
      refine lv_iconst (v := (nI 0)) hx hb dX4_restore_54 (by decide) ?_
      refine s_put (ci := 3) (v := .int (nI 0)) (ty := .int) (C := RX4) (T := TX4) (N := 16) hx hb hts in_X4 tyX4 tyX4_ok nmX4 hown hK hSep hS 8 rfl rfl 7 (by decide) (hts _ q1480) (fun _ h9 => h9) rfl (by decide +kernel) rfl rfl (Nat.le_of_ble_eq_true rfl) dX4_restore_55 (fun H locs hSep hS => ?_)
      have hSep : Sep G.1 clA (Fz F s.heap.size) [pts aT (.inl (G.2.1 0, 20, .inl fT)), pts aL (.inl (G.2.1 0, 89, .inl fL)), pts aP (.inl (G.2.1 0, 89, .inl fP)), pts aD (.inl (G.2.1 0, 1246, .inl fD)), pts aZ (.inl (G.2.1 2, 2, .inl fZ)), pts aG (.inl (G.2.1 0, 18, .inl fG)), pts aB (.inl (G.2.1 0, 5, .inl fB)), pts aS (.inl (G.2.1 0, 5, .inl fS)), pts mo (.inr (3, [.int (nI 0), .ref aT, .int (nI T.length), .ref aN, .ref aL, .ref aP, .ref aD, .int (nI 0), .ref aK, .ref aZ, .ref aG, .ref aB, .int (nI bl), .int bp, .ref aS, .int (nI tl)])), pts aK (.inl (G.2.1 0, 178, .inl fK)), pts aN (.inl (G.2.1 0, 89, .inl (va_cpy fK fN (89 * n9) 0 89)))] H := hSep
      refine lv_aload_n hx hb dX4_restore_58 rfl (lv_at hl 0 rfl) ?_
      refine va_get (D := G.1) (ci := 3) (v := .ref aN) (C := RX4) (T := TX4) (N := 16) hx hb hts in_X4 hown hK (hSep.cel (k := 8) rfl) 0 rfl rfl 3 (by decide) (hts _ q1476) (fun _ h9 => h9) rfl dX4_restore_59 ?_
      refine lv_iconst (v := (nI 3)) hx hb dX4_restore_62 (by decide) ?_
      refine n_iald (i := 3) hx hb hK (hSep.cel (k := 10) rfl) 0 rfl (by omega) (by omega) dX4_restore_63 ?_
      refine n_eq (y := (g2.1 3)) (hE2.2.num (by decide)) ?_
      have hop : oRestore (g, hs, kp, T) (nI n9) = (0, g2.1 3, g2, [], kp, T) := by unfold oRestore; rw [if_neg (by rw [hgd.1]; decide), nI_toInt hn92, Int.toNat_natCast, show (g, hs, kp, T).2.2.1 n9 = some g2 from hg2]
      rw [hQ]
      exact r_i (r := (g2.1 3)) (u := ()) hx hb hr (by rw [hop]; exact fun _ => rfl) (by rw [hop]; exact mod_close (hSep.pick [8, 0, 10, 1, 2, 3, 9, 4, 5, 6, 7] rfl rfl) rfl rfl rfl (⟨hE2, ⟨Nat.zero_le _, fun j h => absurd h (Nat.not_lt_zero _)⟩, hC.2.2⟩)) hS (by first | exact Nat.le_of_ble_eq_true rfl | omega | (dsimp only; omega)) (by first | exact Nat.le_of_ble_eq_true rfl | omega | (dsimp only; omega)) dX4_restore_64 hlocks
    · obtain ⟨hx1, hop⟩ := hrf.resolve_right (fun h => absurd (of_decide_eq_true c32) (by rw [h.1]; decide))
      refine lv_iconst (v := (nI 0)) hx hb dX4_restore_35 (by decide) ?_
      rw [hQ]
      exact r_i (r := (nI 0)) (u := ()) hx hb hr (by rw [hop]; exact fun h => absurd h hx1) (by rw [hop]; exact mod_close (hSep.pick [10, 0, 1, 2, 3, 4, 5, 6, 7, 8, 9] rfl rfl) rfl rfl rfl hC) hS (by first | exact Nat.le_of_ble_eq_true rfl | omega | (dsimp only; omega)) (by first | exact Nat.le_of_ble_eq_true rfl | omega | (dsimp only; omega)) dX4_restore_36 hlocks
  refine lv_aload_n hx hb dX4_restore_0 rfl (lv_at hl 0 rfl) ?_
  refine lv_iload_n hx hb dX4_restore_1 rfl (lv_at hl 1 rfl) ?_
  refine lv_i2l hx hb dX4_restore_2 rfl ?_
  refine lv_lconst (v := 0) hx hb dX4_restore_3 (by decide) ?_
  refine lv_lconst (v := 1) hx hb dX4_restore_4 (by decide) ?_
  have hFk_7 : ∀ q, Fz (fun _ => False) s.heap.size q → (Fz F s.heap.size) q := fun q h => by rcases h with h | h; exact h.elim; exact Fz.new (Nat.le_trans hS.1 h)
  have hPk_7 : Sep G.1 clA (Fz (fun _ => False) s.heap.size) [] s.heap := sp_nil
  have hJk_7 := sp_nilJ (F := (fun _ => False)) hSep (fun _ => id) hFk_7
  refine c_i (va_runS (As := [.long x.toInt64, .long (0 : Int64), .long (1 : Int64)]) (rest := [.ref mo]) ⟨hx, hb, hml, hown, hts⟩ (m_X4_in l G s.heap.size x.toInt64 (0 : Int64) (1 : Int64) ) (va_cwS 3 hts (lw_S q1532 q1533 q44 q1534) rfl rfl rfl (by decide +kernel) ⟨Nat.le_of_ble_eq_true rfl, Nat.le_of_ble_eq_true rfl⟩) (sp_preS hE hS hFk_7 hPk_7 trivial) rfl rfl hl.1 rfl (lv_room (Nat.le_of_ble_eq_true rfl)) dX4_restore_5 ⟨by first | exact Nat.le_of_ble_eq_true rfl | omega | (dsimp only; omega), by first | exact Nat.le_of_ble_eq_true rfl | omega | (dsimp only; omega)⟩) hS hFk_7 hJk_7 (fun r_8 u_9 H locs hpk_7 hSep hS hzk_7 => ?_)
  obtain rfl : r_8 = (bI (inR x.toInt64.toInt (0 : Int64).toInt (1 : Int64).toInt)) := hpk_7
  refine W.cs (cells' := 0) (slots' := 0) rfl rfl ?_
  have hSep : Sep G.1 clA (Fz F s.heap.size) [pts mo (.inr (3, [.int rf, .ref aT, .int (nI T.length), .ref aN, .ref aL, .ref aP, .ref aD, .int (nI hs.length), .ref aK, .ref aZ, .ref aG, .ref aB, .int (nI bl), .int bp, .ref aS, .int (nI tl)])), pts aT (.inl (G.2.1 0, 20, .inl fT)), pts aN (.inl (G.2.1 0, 89, .inl fN)), pts aL (.inl (G.2.1 0, 89, .inl fL)), pts aP (.inl (G.2.1 0, 89, .inl fP)), pts aD (.inl (G.2.1 0, 1246, .inl fD)), pts aK (.inl (G.2.1 0, 178, .inl fK)), pts aZ (.inl (G.2.1 2, 2, .inl fZ)), pts aG (.inl (G.2.1 0, 18, .inl fG)), pts aB (.inl (G.2.1 0, 5, .inl fB)), pts aS (.inl (G.2.1 0, 5, .inl fS))] H := hSep
  refine n_eq (y := (bI (inR x.toInt 0 1))) (by rw [Int32.toInt_toInt64]; rfl) ?_
  refine b_if_ne (tgt := 15) hx hb dX4_restore_8 (by decide) (fun c8 => ?_) (fun c8 => ?_)
  · obtain ⟨n9, hn91, hn92, rfl⟩ := inR_n (n := 1) c8
    refine lv_aload_n hx hb dX4_restore_15 rfl (lv_at hl 0 rfl) ?_
    refine va_get (D := G.1) (ci := 3) (v := .ref aZ) (C := RX4) (T := TX4) (N := 16) hx hb hts in_X4 hown hK (hSep.cel (k := 0) rfl) 0 rfl rfl 9 (by decide) (hts _ q1482) (fun _ h9 => h9) rfl dX4_restore_16 ?_
    refine lv_iload_n hx hb dX4_restore_19 rfl (lv_at hl 1 rfl) ?_
    refine n_zald (i := n9) hx hb hK (hSep.cel (k := 7) rfl) 2 rfl (by omega) (by omega) dX4_restore_20 ?_
    refine n_eq (y := (bI ((kp n9).isSome))) ((hC.2.2.1 n9 (by omega)).1) ?_
    refine b_if_ne (tgt := 28) hx hb dX4_restore_21 (by decide) (fun c21 => ?_) (fun c21 => ?_)
    · refine lv_iconst (v := (nI 0)) hx hb dX4_restore_28 (by decide) ?_
      exact L29 0 (Or.inr ⟨rfl, ⟨c8, by rw [nI_toInt hn92, Int.toNat_natCast]; exact Option.isSome_iff_exists.mp c21⟩⟩) (by decide) _ _ _ hSep hS (lv_sub hl [0, 1] rfl)
    · refine lv_iconst (v := (nI 2)) hx hb dX4_restore_24 (by decide) ?_
      refine lv_goto (tgt := 29) hx hb dX4_restore_25 (by decide) ?_
      exact L29 2 (Or.inl ⟨by decide, by unfold oRestore; rw [if_neg (by rw [c8]; decide), nI_toInt hn92, Int.toNat_natCast, show (g, hs, kp, T).2.2.1 n9 = none from Option.not_isSome_iff_eq_none.mp (by rw [c21]; decide)]⟩) (by decide) _ _ _ hSep hS (lv_sub hl [0, 1] rfl)
  · refine lv_iconst (v := (nI 1)) hx hb dX4_restore_11 (by decide) ?_
    refine lv_goto (tgt := 29) hx hb dX4_restore_12 (by decide) ?_
    exact L29 1 (Or.inl ⟨by decide, by unfold oRestore; rw [if_pos c8]⟩) (by decide) _ _ _ hSep hS (lv_sub hl [0, 1] rfl)
