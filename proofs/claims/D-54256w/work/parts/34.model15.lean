set_option maxRecDepth 100000
set_option maxHeartbeats 600000 in
set_option maxRecDepth 100000 in
theorem m_X4_simulate (l : Launch) (G : EVT) (F : Nat → Prop) (sz : Nat) (mo : Nat) (rf : Int32) (σ : MS) (x : Int64) (n : Int32)  : Met l yX4_simulate (ws_ yX4_simulate cX4_simulate 7 (some .int)) ({ frames := 7, cells := 0, slots := 0, locals := 180 } : Room) (SPc G F sz [.ref mo, .long x, .int n] [modA G mo rf σ] (fun _ => True)) (SQi G F sz (fun (r : Int32) (u : Unit) => (oSim σ x n).1 = 0 → r = (oSim σ x n).2.1) (fun (u : Unit) => [modA G mo (nI (oSim σ x n).1) (oSim σ x n).2.2])) (0) (0) (Fz F sz) := by
  refine sp_of RX4 (by decide) rfl (Nat.le_of_ble_eq_true rfl) ?_
  intro p e s m args below meth c ls QQ hx hb hr hts hown hlocks hml hnm hsz hSep hΦ hE hS hl hQ
  subst hsz
  have hK := hE.1
  have hl : lv_has ls 7 [(0, .ref mo), (1, .long x), (3, .int n)] := hl
  obtain ⟨g, hs, kp, T⟩ := σ
  obtain ⟨aT, aN, aL, aP, aD, aK, aZ, aG, aB, aS, bl, bp, tl, fT, fN, fL, fP, fD, fK, fZ, fG, fB, fS, hC, hSep⟩ := mod_unpk hSep
  have hg : gV g := hC.1.1
  have ho : gOk g := hC.1.1.1
  have he : Enc fN g := hC.1.2
  have hT : Pre fT T := hC.2.2.2.1
  have hT20 : T.length ≤ 20 := hC.2.2.2.2.1
  have hT256 : ∀ w ∈ T, w < 256 := hC.2.2.2.2.2
  have hD14 : hs.length ≤ 14 := hC.2.1.1
  have L18 : ∀ (x9 : Nat) , ((x9 ≠ 0 ∧ oSim (g, hs, kp, T) x n = (x9, 0, (g, hs, kp, T))) ∨ (x9 = 0 ∧ inR n.toInt 1 20 = true)) → (x9 < 3) → ∀ (H : Heap) (locs : List Loc) (ls : Array Slot), Sep G.1 clA (Fz F s.heap.size) [pts mo (.inr (3, [.int rf, .ref aT, .int (nI T.length), .ref aN, .ref aL, .ref aP, .ref aD, .int (nI hs.length), .ref aK, .ref aZ, .ref aG, .ref aB, .int (nI bl), .int bp, .ref aS, .int (nI tl)])), pts aT (.inl (G.2.1 0, 20, .inl fT)), pts aN (.inl (G.2.1 0, 89, .inl fN)), pts aL (.inl (G.2.1 0, 89, .inl fL)), pts aP (.inl (G.2.1 0, 89, .inl fP)), pts aD (.inl (G.2.1 0, 1246, .inl fD)), pts aK (.inl (G.2.1 0, 178, .inl fK)), pts aZ (.inl (G.2.1 2, 2, .inl fZ)), pts aG (.inl (G.2.1 0, 18, .inl fG)), pts aB (.inl (G.2.1 0, 5, .inl fB)), pts aS (.inl (G.2.1 0, 5, .inl fS))] H → va_S (Fz F s.heap.size) s.heap H locs → lv_has ls 7 [(0, .ref mo), (1, .long x), (3, .int n)] → W p l e ({ frames := 7, cells := 0, slots := 0, locals := 180 } : Room) s m args below meth c H locs (0) (0) QQ (F0 m 18 ls [.int (nI x9), .ref mo]) := by
    intro x9 hrf hx9 H locs ls hSep hS hl
    obtain ⟨Fk_1, hFk_1, hPk_1, hJk_1⟩ := hSep.cut (Pc := [pts mo (.inr (3, [.int rf, .ref aT, .int (nI T.length), .ref aN, .ref aL, .ref aP, .ref aD, .int (nI hs.length), .ref aK, .ref aZ, .ref aG, .ref aB, .int (nI bl), .int bp, .ref aS, .int (nI tl)]))]) (Pr := [pts aT (.inl (G.2.1 0, 20, .inl fT)), pts aN (.inl (G.2.1 0, 89, .inl fN)), pts aL (.inl (G.2.1 0, 89, .inl fL)), pts aP (.inl (G.2.1 0, 89, .inl fP)), pts aD (.inl (G.2.1 0, 1246, .inl fD)), pts aK (.inl (G.2.1 0, 178, .inl fK)), pts aZ (.inl (G.2.1 2, 2, .inl fZ)), pts aG (.inl (G.2.1 0, 18, .inl fG)), pts aB (.inl (G.2.1 0, 5, .inl fB)), pts aS (.inl (G.2.1 0, 5, .inl fS))]) (fun q h => Fz.new (Nat.le_trans hS.1 h)) [0] [1, 2, 3, 4, 5, 6, 7, 8, 9, 10] rfl rfl rfl rfl (by decide)
    refine c_i (va_runV (As := [.int (nI x9)]) (rest := []) ⟨hx, hb, hml, hown, hts⟩ (m_X4_refused l G Fk_1 H.size mo rf aT T.length aN aL aP aD hs.length aK aZ aG aB bl bp aS tl x9 (by omega)) (cwV 1 hts (lw_V q1535 q1537 qs21 q44 q1538) rfl rfl rfl (by decide +kernel) ⟨Nat.le_of_ble_eq_true rfl, Nat.le_of_ble_eq_true rfl⟩) (sp_preV hE hS hFk_1 hPk_1 trivial (sp_recv (ci := 3) hK (hSep.cel (k := 0) rfl) rfl)) rfl rfl hl.1 rfl (lv_room (Nat.le_of_ble_eq_true rfl)) dX4_simulate_18 ⟨by first | exact Nat.le_of_ble_eq_true rfl | omega | (dsimp only; omega), by first | exact Nat.le_of_ble_eq_true rfl | omega | (dsimp only; omega)⟩) hS hFk_1 hJk_1 (fun r_2 u_3 H locs hpk_1 hSep hS hzk_1 => ?_)
    obtain rfl : r_2 = (bI (decide (0 < x9))) := hpk_1
    refine W.cs (cells' := 0) (slots' := 0) rfl rfl ?_
    have hSep : Sep G.1 clA (Fz F s.heap.size) [pts aT (.inl (G.2.1 0, 20, .inl fT)), pts aN (.inl (G.2.1 0, 89, .inl fN)), pts aL (.inl (G.2.1 0, 89, .inl fL)), pts aP (.inl (G.2.1 0, 89, .inl fP)), pts aD (.inl (G.2.1 0, 1246, .inl fD)), pts aK (.inl (G.2.1 0, 178, .inl fK)), pts aZ (.inl (G.2.1 2, 2, .inl fZ)), pts aG (.inl (G.2.1 0, 18, .inl fG)), pts aB (.inl (G.2.1 0, 5, .inl fB)), pts aS (.inl (G.2.1 0, 5, .inl fS)), pts mo (.inr (3, [.int (nI x9), .ref aT, .int (nI T.length), .ref aN, .ref aL, .ref aP, .ref aD, .int (nI hs.length), .ref aK, .ref aZ, .ref aG, .ref aB, .int (nI bl), .int bp, .ref aS, .int (nI tl)]))] H := hSep
    refine b_if_eq (tgt := 26) hx hb dX4_simulate_21 (by decide) (fun c21 => ?_) (fun c21 => ?_)
    · obtain ⟨hx0, hgd⟩ := hrf.resolve_left (fun h => h.1 (by have := of_decide_eq_false c21; omega))
      subst hx0
      obtain ⟨n9, hn90, hn91, rfl⟩ := inR_lo (a := 1) (b := 20) hgd
      have hn92 : n9 < 2 ^ 31 := by omega
      refine lv_aload_n hx hb dX4_simulate_26 rfl (lv_at hl 0 rfl) ?_
      refine va_get (D := G.1) (ci := 3) (v := .ref aN) (C := RX4) (T := TX4) (N := 16) hx hb hts in_X4 hown hK (hSep.cel (k := 10) rfl) 0 rfl rfl 3 (by decide) (hts _ q1476) (fun _ h9 => h9) rfl dX4_simulate_27 ?_
      refine lv_iconst (v := (nI 0)) hx hb dX4_simulate_30 (by decide) ?_
      refine lv_aload_n hx hb dX4_simulate_31 rfl (lv_at hl 0 rfl) ?_
      refine va_get (D := G.1) (ci := 3) (v := .ref aL) (C := RX4) (T := TX4) (N := 16) hx hb hts in_X4 hown hK (hSep.cel (k := 10) rfl) 0 rfl rfl 4 (by decide) (hts _ q1477) (fun _ h9 => h9) rfl dX4_simulate_32 ?_
      refine lv_iconst (v := (nI 0)) hx hb dX4_simulate_35 (by decide) ?_
      obtain ⟨Fk_4, hFk_4, hPk_4, hJk_4⟩ := hSep.cut (Pc := [pts aN (.inl (G.2.1 0, 89, .inl fN)), pts aL (.inl (G.2.1 0, 89, .inl fL))]) (Pr := [pts aT (.inl (G.2.1 0, 20, .inl fT)), pts aP (.inl (G.2.1 0, 89, .inl fP)), pts aD (.inl (G.2.1 0, 1246, .inl fD)), pts aK (.inl (G.2.1 0, 178, .inl fK)), pts aZ (.inl (G.2.1 2, 2, .inl fZ)), pts aG (.inl (G.2.1 0, 18, .inl fG)), pts aB (.inl (G.2.1 0, 5, .inl fB)), pts aS (.inl (G.2.1 0, 5, .inl fS)), pts mo (.inr (3, [.int (nI 0), .ref aT, .int (nI T.length), .ref aN, .ref aL, .ref aP, .ref aD, .int (nI hs.length), .ref aK, .ref aZ, .ref aG, .ref aB, .int (nI bl), .int bp, .ref aS, .int (nI tl)]))]) (fun q h => Fz.new (Nat.le_trans hS.1 h)) [1, 2] [0, 3, 4, 5, 6, 7, 8, 9, 10] rfl rfl rfl rfl (by decide)
      refine c_v (va_runS (As := [.ref aN, .int (nI 0), .ref aL, .int (nI 0)]) (rest := []) ⟨hx, hb, hml, hown, hts⟩ (m_X4_copyState l G Fk_4 H.size aN 89 fN 0 aL 89 fL 0 (by decide) (by decide) (by decide) (by decide)) (va_cwS 4 hts (lw_S q1616 q1617 q44 q1618) rfl rfl rfl (by decide +kernel) ⟨Nat.le_of_ble_eq_true rfl, Nat.le_of_ble_eq_true rfl⟩) (sp_preS hE hS hFk_4 hPk_4 trivial) rfl rfl hl.1 rfl (lv_room (Nat.le_of_ble_eq_true rfl)) dX4_simulate_36 ⟨by first | exact Nat.le_of_ble_eq_true rfl | omega | (dsimp only; omega), by first | exact Nat.le_of_ble_eq_true rfl | omega | (dsimp only; omega)⟩) hS hFk_4 hJk_4 (fun u_6 H locs hpk_4 hSep hS hzk_4 => ?_)
      refine W.cs (cells' := 0) (slots' := 0) rfl rfl ?_
      have hSep : Sep G.1 clA (Fz F s.heap.size) [pts aT (.inl (G.2.1 0, 20, .inl fT)), pts aP (.inl (G.2.1 0, 89, .inl fP)), pts aD (.inl (G.2.1 0, 1246, .inl fD)), pts aK (.inl (G.2.1 0, 178, .inl fK)), pts aZ (.inl (G.2.1 2, 2, .inl fZ)), pts aG (.inl (G.2.1 0, 18, .inl fG)), pts aB (.inl (G.2.1 0, 5, .inl fB)), pts aS (.inl (G.2.1 0, 5, .inl fS)), pts mo (.inr (3, [.int (nI 0), .ref aT, .int (nI T.length), .ref aN, .ref aL, .ref aP, .ref aD, .int (nI hs.length), .ref aK, .ref aZ, .ref aG, .ref aB, .int (nI bl), .int bp, .ref aS, .int (nI tl)])), pts aN (.inl (G.2.1 0, 89, .inl fN)), pts aL (.inl (G.2.1 0, 89, .inl (va_cpy fN fL 0 0 89)))] H := hSep
      refine lv_lload_n hx hb dX4_simulate_39 rfl (lv_at hl 1 rfl) ?_
      refine lv_lstore (lv' := [(4, .long x), (0, .ref mo), (1, .long x), (3, .int (nI n9))]) hx hb dX4_simulate_40 hl (by decide) rfl (fun ls hl => ?_)
      have L89 : ∀ (gk : GS) (fL9 : Nat → Int32) (bl9 : Nat) (bp9 : Int32) (tl9 : Nat) (fS9 : Nat → Int32) (fG9 : Nat → Int32) (fB9 : Nat → Int32) (fP9 : Nat → Int32) , (Enc fL9 gk) → (gSim x n9 0 g = gk) → ∀ (H : Heap) (locs : List Loc) (ls : Array Slot), Sep G.1 clA (Fz F s.heap.size) [pts aT (.inl (G.2.1 0, 20, .inl fT)), pts aP (.inl (G.2.1 0, 89, .inl fP9)), pts aD (.inl (G.2.1 0, 1246, .inl fD)), pts aK (.inl (G.2.1 0, 178, .inl fK)), pts aZ (.inl (G.2.1 2, 2, .inl fZ)), pts aG (.inl (G.2.1 0, 18, .inl fG9)), pts aB (.inl (G.2.1 0, 5, .inl fB9)), pts aS (.inl (G.2.1 0, 5, .inl fS9)), pts mo (.inr (3, [.int (nI 0), .ref aT, .int (nI T.length), .ref aN, .ref aL, .ref aP, .ref aD, .int (nI hs.length), .ref aK, .ref aZ, .ref aG, .ref aB, .int (nI bl9), .int bp9, .ref aS, .int (nI tl9)])), pts aN (.inl (G.2.1 0, 89, .inl fN)), pts aL (.inl (G.2.1 0, 89, .inl fL9))] H → va_S (Fz F s.heap.size) s.heap H locs → lv_has ls 7 [(0, .ref mo), (1, .long x), (3, .int (nI n9))] → W p l e ({ frames := 7, cells := 0, slots := 0, locals := 180 } : Room) s m args below meth c H locs (0) (0) QQ (F0 m 89 ls []) := by
        intro gk fL9 bl9 bp9 tl9 fS9 fG9 fB9 fP9 hp89_0 hp89_1 H locs ls hSep hS hl
        refine lv_aload_n hx hb dX4_simulate_89 rfl (lv_at hl 0 rfl) ?_
        have L129 : ∀ (v9 : Int32) , (v9 = simA gk) → ∀ (H : Heap) (locs : List Loc) (ls : Array Slot), Sep G.1 clA (Fz F s.heap.size) [pts aT (.inl (G.2.1 0, 20, .inl fT)), pts aP (.inl (G.2.1 0, 89, .inl fP9)), pts aD (.inl (G.2.1 0, 1246, .inl fD)), pts aK (.inl (G.2.1 0, 178, .inl fK)), pts aZ (.inl (G.2.1 2, 2, .inl fZ)), pts aG (.inl (G.2.1 0, 18, .inl fG9)), pts aB (.inl (G.2.1 0, 5, .inl fB9)), pts aS (.inl (G.2.1 0, 5, .inl fS9)), pts mo (.inr (3, [.int (nI 0), .ref aT, .int (nI T.length), .ref aN, .ref aL, .ref aP, .ref aD, .int (nI hs.length), .ref aK, .ref aZ, .ref aG, .ref aB, .int (nI bl9), .int bp9, .ref aS, .int (nI tl9)])), pts aN (.inl (G.2.1 0, 89, .inl fN)), pts aL (.inl (G.2.1 0, 89, .inl fL9))] H → va_S (Fz F s.heap.size) s.heap H locs → lv_has ls 7 [(0, .ref mo), (1, .long x), (3, .int (nI n9))] → W p l e ({ frames := 7, cells := 0, slots := 0, locals := 180 } : Room) s m args below meth c H locs (0) (0) QQ (F0 m 129 ls [.int v9]) := by
          intro v9 hp129_0 H locs ls hSep hS hl
          have hop : oSim (g, hs, kp, T) x (nI n9) = (0, v9, g, hs, kp, T) := by unfold oSim; rw [if_neg (by rw [hgd]; decide), nI_toInt hn92, Int.toNat_natCast, hp129_0, ← hp89_1]
          rw [hQ]
          exact r_i (r := v9) (u := ()) hx hb hr (by rw [hop]; exact fun _ => rfl) (by rw [hop]; exact mod_close (hSep.pick [8, 0, 9, 10, 1, 2, 3, 4, 5, 6, 7] rfl rfl) rfl rfl rfl hC) hS (by first | exact Nat.le_of_ble_eq_true rfl | omega | (dsimp only; omega)) (by first | exact Nat.le_of_ble_eq_true rfl | omega | (dsimp only; omega)) dX4_simulate_129 hlocks
        refine va_get (D := G.1) (ci := 3) (v := .ref aL) (C := RX4) (T := TX4) (N := 16) hx hb hts in_X4 hown hK (hSep.cel (k := 8) rfl) 0 rfl rfl 4 (by decide) (hts _ q1477) (fun _ h9 => h9) rfl dX4_simulate_90 ?_
        refine lv_iconst (v := (nI 0)) hx hb dX4_simulate_93 (by decide) ?_
        refine n_iald (i := 0) hx hb hK (hSep.cel (k := 10) rfl) 0 rfl (by omega) (by omega) dX4_simulate_94 ?_
        refine n_eq (y := (gk.1 0)) (hp89_0.num (by decide)) ?_
        refine lv_if_ne (tgt := 102) hx hb dX4_simulate_95 (by decide) (fun c95 => ?_) (fun c95 => ?_)
        · refine lv_sipush (v := (nI 1000)) hx hb dX4_simulate_102 (by decide) ?_
          refine lv_aload_n hx hb dX4_simulate_105 rfl (lv_at hl 0 rfl) ?_
          refine va_get (D := G.1) (ci := 3) (v := .ref aL) (C := RX4) (T := TX4) (N := 16) hx hb hts in_X4 hown hK (hSep.cel (k := 8) rfl) 0 rfl rfl 4 (by decide) (hts _ q1477) (fun _ h9 => h9) rfl dX4_simulate_106 ?_
          refine lv_iconst (v := (nI 0)) hx hb dX4_simulate_109 (by decide) ?_
          have hFk_7 : ∀ q, Fz (fun _ => False) H.size q → (Fz F s.heap.size) q := fun q h => by rcases h with h | h; exact h.elim; exact Fz.new (Nat.le_trans hS.1 h)
          have hPk_7 : Sep G.1 clA (Fz (fun _ => False) H.size) [] H := sp_nil
          have hJk_7 := sp_nilJ (F := (fun _ => False)) hSep (fun _ => id) hFk_7
          refine c_i (va_runS (As := [.int (nI 0)]) (rest := [.ref aL, .int (nI 1000)]) ⟨hx, hb, hml, hown, hts⟩ (m_X4_at l G H.size 0 ) (va_cwS 1 hts (lw_S q1584 q1585 q44 q1586) rfl rfl rfl (by decide +kernel) ⟨Nat.le_of_ble_eq_true rfl, Nat.le_of_ble_eq_true rfl⟩) (sp_preS hE hS hFk_7 hPk_7 trivial) rfl rfl hl.1 rfl (lv_room (Nat.le_of_ble_eq_true rfl)) dX4_simulate_110 ⟨by first | exact Nat.le_of_ble_eq_true rfl | omega | (dsimp only; omega), by first | exact Nat.le_of_ble_eq_true rfl | omega | (dsimp only; omega)⟩) hS hFk_7 hJk_7 (fun r_8 u_9 H locs hpk_7 hSep hS hzk_7 => ?_)
          obtain rfl : r_8 = (nI (23 + 15 * 0)) := hpk_7
          refine W.cs (cells' := 0) (slots' := 0) rfl rfl ?_
          have hSep : Sep G.1 clA (Fz F s.heap.size) [pts aT (.inl (G.2.1 0, 20, .inl fT)), pts aP (.inl (G.2.1 0, 89, .inl fP9)), pts aD (.inl (G.2.1 0, 1246, .inl fD)), pts aK (.inl (G.2.1 0, 178, .inl fK)), pts aZ (.inl (G.2.1 2, 2, .inl fZ)), pts aG (.inl (G.2.1 0, 18, .inl fG9)), pts aB (.inl (G.2.1 0, 5, .inl fB9)), pts aS (.inl (G.2.1 0, 5, .inl fS9)), pts mo (.inr (3, [.int (nI 0), .ref aT, .int (nI T.length), .ref aN, .ref aL, .ref aP, .ref aD, .int (nI hs.length), .ref aK, .ref aZ, .ref aG, .ref aB, .int (nI bl9), .int bp9, .ref aS, .int (nI tl9)])), pts aN (.inl (G.2.1 0, 89, .inl fN)), pts aL (.inl (G.2.1 0, 89, .inl fL9))] H := hSep
          refine lv_iconst (v := (nI 0)) hx hb dX4_simulate_113 (by decide) ?_
          refine n_iadd hx hb dX4_simulate_114 ?_
          refine n_iald (i := (23 + 15 * 0) + 0) hx hb hK (hSep.cel (k := 10) rfl) 0 rfl (by omega) (by omega) dX4_simulate_115 ?_
          refine n_eq (y := (gk.1 23)) (hp89_0.sc (t := 0) (by decide) rfl) ?_
          refine lv_imul hx hb dX4_simulate_116 ?_
          refine lv_aload_n hx hb dX4_simulate_117 rfl (lv_at hl 0 rfl) ?_
          refine va_get (D := G.1) (ci := 3) (v := .ref aL) (C := RX4) (T := TX4) (N := 16) hx hb hts in_X4 hown hK (hSep.cel (k := 8) rfl) 0 rfl rfl 4 (by decide) (hts _ q1477) (fun _ h9 => h9) rfl dX4_simulate_118 ?_
          refine lv_iconst (v := (nI 1)) hx hb dX4_simulate_121 (by decide) ?_
          have hFk_10 : ∀ q, Fz (fun _ => False) H.size q → (Fz F s.heap.size) q := fun q h => by rcases h with h | h; exact h.elim; exact Fz.new (Nat.le_trans hS.1 h)
          have hPk_10 : Sep G.1 clA (Fz (fun _ => False) H.size) [] H := sp_nil
          have hJk_10 := sp_nilJ (F := (fun _ => False)) hSep (fun _ => id) hFk_10
          refine c_i (va_runS (As := [.int (nI 1)]) (rest := [.ref aL, .int ((nI 1000) * (gk.1 23))]) ⟨hx, hb, hml, hown, hts⟩ (m_X4_at l G H.size 1 ) (va_cwS 1 hts (lw_S q1584 q1585 q44 q1586) rfl rfl rfl (by decide +kernel) ⟨Nat.le_of_ble_eq_true rfl, Nat.le_of_ble_eq_true rfl⟩) (sp_preS hE hS hFk_10 hPk_10 trivial) rfl rfl hl.1 rfl (lv_room (Nat.le_of_ble_eq_true rfl)) dX4_simulate_122 ⟨by first | exact Nat.le_of_ble_eq_true rfl | omega | (dsimp only; omega), by first | exact Nat.le_of_ble_eq_true rfl | omega | (dsimp only; omega)⟩) hS hFk_10 hJk_10 (fun r_11 u_12 H locs hpk_10 hSep hS hzk_10 => ?_)
          obtain rfl : r_11 = (nI (23 + 15 * 1)) := hpk_10
          refine W.cs (cells' := 0) (slots' := 0) rfl rfl ?_
          have hSep : Sep G.1 clA (Fz F s.heap.size) [pts aT (.inl (G.2.1 0, 20, .inl fT)), pts aP (.inl (G.2.1 0, 89, .inl fP9)), pts aD (.inl (G.2.1 0, 1246, .inl fD)), pts aK (.inl (G.2.1 0, 178, .inl fK)), pts aZ (.inl (G.2.1 2, 2, .inl fZ)), pts aG (.inl (G.2.1 0, 18, .inl fG9)), pts aB (.inl (G.2.1 0, 5, .inl fB9)), pts aS (.inl (G.2.1 0, 5, .inl fS9)), pts mo (.inr (3, [.int (nI 0), .ref aT, .int (nI T.length), .ref aN, .ref aL, .ref aP, .ref aD, .int (nI hs.length), .ref aK, .ref aZ, .ref aG, .ref aB, .int (nI bl9), .int bp9, .ref aS, .int (nI tl9)])), pts aN (.inl (G.2.1 0, 89, .inl fN)), pts aL (.inl (G.2.1 0, 89, .inl fL9))] H := hSep
          refine lv_iconst (v := (nI 0)) hx hb dX4_simulate_125 (by decide) ?_
          refine n_iadd hx hb dX4_simulate_126 ?_
          refine n_iald (i := (23 + 15 * 1) + 0) hx hb hK (hSep.cel (k := 10) rfl) 0 rfl (by omega) (by omega) dX4_simulate_127 ?_
          refine n_eq (y := (gk.1 38)) (hp89_0.sc (t := 1) (by decide) rfl) ?_
          refine lv_iadd hx hb dX4_simulate_128 ?_
          exact L129 (((nI 1000) * (gk.1 23)) + (gk.1 38)) (by unfold simA; rw [if_neg (show ¬ gk.1 0 = nI 0 from c95)]) _ _ _ hSep hS (lv_sub hl [0, 1, 2] rfl)
        · refine lv_iconst (v := (nI 0)) hx hb dX4_simulate_98 (by decide) ?_
          refine lv_goto (tgt := 129) hx hb dX4_simulate_99 (by decide) ?_
          exact L129 (nI 0) (by unfold simA; rw [if_pos (show gk.1 0 = nI 0 from c95)]) _ _ _ hSep hS (lv_sub hl [0, 1, 2] rfl)
      refine lv_iconst (v := (nI 0)) hx hb dX4_simulate_42 (by decide) ?_
      refine lv_istore (lv' := [(6, .int (nI 0)), (4, .long x), (0, .ref mo), (1, .long x), (3, .int (nI n9))]) hx hb dX4_simulate_43 hl (by decide) rfl (fun ls hl => ?_)
      have L45 : ∀ (fu : Nat) (k : Nat) (gk : GS) (fL9 : Nat → Int32) (bl9 : Nat) (bp9 : Int32) (tl9 : Nat) (fS9 : Nat → Int32) (fG9 : Nat → Int32) (fB9 : Nat → Int32) (fP9 : Nat → Int32) , n9 - k < fu → (k ≤ n9) → (gSim x n9 0 g = gSim x (n9 - k) k gk) → (gOk gk) → (Enc fL9 gk) → ∀ (H : Heap) (locs : List Loc) (ls : Array Slot), Sep G.1 clA (Fz F s.heap.size) [pts aT (.inl (G.2.1 0, 20, .inl fT)), pts aP (.inl (G.2.1 0, 89, .inl fP9)), pts aD (.inl (G.2.1 0, 1246, .inl fD)), pts aK (.inl (G.2.1 0, 178, .inl fK)), pts aZ (.inl (G.2.1 2, 2, .inl fZ)), pts aG (.inl (G.2.1 0, 18, .inl fG9)), pts aB (.inl (G.2.1 0, 5, .inl fB9)), pts aS (.inl (G.2.1 0, 5, .inl fS9)), pts mo (.inr (3, [.int (nI 0), .ref aT, .int (nI T.length), .ref aN, .ref aL, .ref aP, .ref aD, .int (nI hs.length), .ref aK, .ref aZ, .ref aG, .ref aB, .int (nI bl9), .int bp9, .ref aS, .int (nI tl9)])), pts aN (.inl (G.2.1 0, 89, .inl fN)), pts aL (.inl (G.2.1 0, 89, .inl fL9))] H → va_S (Fz F s.heap.size) s.heap H locs → lv_has ls 7 [(6, .int (nI k)), (4, .long (lcgN x k)), (0, .ref mo), (1, .long x), (3, .int (nI n9))] → W p l e ({ frames := 7, cells := 0, slots := 0, locals := 180 } : Room) s m args below meth c H locs (0) (0) QQ (F0 m 45 ls []) := by
        intro fu
        induction fu with
        | zero => intro k gk fL9 bl9 bp9 tl9 fS9 fG9 fB9 fP9 hm; exact absurd hm (Nat.not_lt_zero _)
        | succ fu ih45 =>
          intro k gk fL9 bl9 bp9 tl9 fS9 fG9 fB9 fP9 hm45 hp45_0 hp45_1 hp45_2 hp45_3 H locs ls hSep hS hl
          refine lv_iload hx hb dX4_simulate_45 (lv_at hl 0 rfl) ?_
          refine lv_iload_n hx hb dX4_simulate_47 rfl (lv_at hl 4 rfl) ?_
          refine n_icmp_ge (tgt := 89) hx hb (by omega) (by omega) dX4_simulate_48 (by decide) (fun c48 => ?_) (fun c48 => ?_)
          · exact L89 gk fL9 bl9 bp9 tl9 fS9 fG9 fB9 fP9 (hp45_3) (by rw [hp45_1, show n9 - k = 0 by omega]; rfl) _ _ _ hSep hS (lv_sub hl [2, 3, 4] rfl)
          · refine lv_aload_n hx hb dX4_simulate_51 rfl (lv_at hl 2 rfl) ?_
            refine va_get (D := G.1) (ci := 3) (v := .ref aL) (C := RX4) (T := TX4) (N := 16) hx hb hts in_X4 hown hK (hSep.cel (k := 8) rfl) 0 rfl rfl 4 (by decide) (hts _ q1477) (fun _ h9 => h9) rfl dX4_simulate_52 ?_
            have hFk_13 : ∀ q, Fz (fun _ => False) H.size q → (Fz F s.heap.size) q := fun q h => by rcases h with h | h; exact h.elim; exact Fz.new (Nat.le_trans hS.1 h)
            have hPk_13 : Sep G.1 clA (Fz (fun _ => False) H.size) [] H := sp_nil
            have hJk_13 := sp_nilJ (F := (fun _ => False)) hSep (fun _ => id) hFk_13
            refine c_i (va_runS (As := [.ref aL]) (rest := []) ⟨hx, hb, hml, hown, hts⟩ (m_X4_isOn l G H.size aL fL9 gk (hp45_3)) (va_cwS 1 hts (lw_S q1630 q1631 q44 q1632) rfl rfl rfl (by decide +kernel) ⟨Nat.le_of_ble_eq_true rfl, Nat.le_of_ble_eq_true rfl⟩) (sp_preS hE hS hFk_13 hPk_13 (hSep.cel (k := 10) rfl)) rfl rfl hl.1 rfl (lv_room (Nat.le_of_ble_eq_true rfl)) dX4_simulate_55 ⟨by first | exact Nat.le_of_ble_eq_true rfl | omega | (dsimp only; omega), by first | exact Nat.le_of_ble_eq_true rfl | omega | (dsimp only; omega)⟩) hS hFk_13 hJk_13 (fun r_14 u_15 H locs hpk_13 hSep hS hzk_13 => ?_)
            obtain rfl : r_14 = (bI (gOn gk)) := hpk_13
            refine W.cs (cells' := 0) (slots' := 0) rfl rfl ?_
            have hSep : Sep G.1 clA (Fz F s.heap.size) [pts aT (.inl (G.2.1 0, 20, .inl fT)), pts aP (.inl (G.2.1 0, 89, .inl fP9)), pts aD (.inl (G.2.1 0, 1246, .inl fD)), pts aK (.inl (G.2.1 0, 178, .inl fK)), pts aZ (.inl (G.2.1 2, 2, .inl fZ)), pts aG (.inl (G.2.1 0, 18, .inl fG9)), pts aB (.inl (G.2.1 0, 5, .inl fB9)), pts aS (.inl (G.2.1 0, 5, .inl fS9)), pts mo (.inr (3, [.int (nI 0), .ref aT, .int (nI T.length), .ref aN, .ref aL, .ref aP, .ref aD, .int (nI hs.length), .ref aK, .ref aZ, .ref aG, .ref aB, .int (nI bl9), .int bp9, .ref aS, .int (nI tl9)])), pts aN (.inl (G.2.1 0, 89, .inl fN)), pts aL (.inl (G.2.1 0, 89, .inl fL9))] H := hSep
            refine b_if_eq (tgt := 89) hx hb dX4_simulate_58 (by decide) (fun c58 => ?_) (fun c58 => ?_)
            · exact L89 gk fL9 bl9 bp9 tl9 fS9 fG9 fB9 fP9 (hp45_3) (by rw [hp45_1]; exact gSim_off c58) _ _ _ hSep hS (lv_sub hl [2, 3, 4] rfl)
            · refine lv_lload hx hb dX4_simulate_61 (lv_at hl 1 rfl) ?_
              refine lv_ldc2 (v := 6364136223846793005) hx hb hown (hts _ q1620) dX4_simulate_63 ?_
              refine lv_lmul hx hb dX4_simulate_66 ?_
              refine lv_ldc2 (v := 1442695040888963407) hx hb hown (hts _ q1621) dX4_simulate_67 ?_
              refine lv_ladd hx hb dX4_simulate_70 ?_
              refine n_eql (y := (lcgN x (k + 1))) (rfl) ?_
              refine lv_lstore (lv' := [(4, .long (lcgN x (k + 1))), (6, .int (nI k)), (0, .ref mo), (1, .long x), (3, .int (nI n9))]) hx hb dX4_simulate_71 hl (by decide) rfl (fun ls hl => ?_)
              refine lv_aload_n hx hb dX4_simulate_73 rfl (lv_at hl 2 rfl) ?_
              refine lv_lload hx hb dX4_simulate_74 (lv_at hl 0 rfl) ?_
              refine lv_bipush (v := (nI 33)) hx hb dX4_simulate_76 (by decide) ?_
              refine lv_lushr hx hb dX4_simulate_78 rfl ?_
              refine lv_l2i hx hb dX4_simulate_79 rfl ?_
              refine n_eq (y := (nI ((rnd (lcgN x (k + 1))).toInt.toNat))) ((rnd_nat (lcgN x (k + 1))).2) ?_
              obtain ⟨Fk_16, hFk_16, hPk_16, hJk_16⟩ := hSep.cut (Pc := [pts mo (.inr (3, [.int (nI 0), .ref aT, .int (nI T.length), .ref aN, .ref aL, .ref aP, .ref aD, .int (nI hs.length), .ref aK, .ref aZ, .ref aG, .ref aB, .int (nI bl9), .int bp9, .ref aS, .int (nI tl9)])), pts aL (.inl (G.2.1 0, 89, .inl fL9)), pts aS (.inl (G.2.1 0, 5, .inl fS9)), pts aG (.inl (G.2.1 0, 18, .inl fG9)), pts aB (.inl (G.2.1 0, 5, .inl fB9)), pts aP (.inl (G.2.1 0, 89, .inl fP9))]) (Pr := [pts aT (.inl (G.2.1 0, 20, .inl fT)), pts aD (.inl (G.2.1 0, 1246, .inl fD)), pts aK (.inl (G.2.1 0, 178, .inl fK)), pts aZ (.inl (G.2.1 2, 2, .inl fZ)), pts aN (.inl (G.2.1 0, 89, .inl fN))]) (fun q h => Fz.new (Nat.le_trans hS.1 h)) [8, 10, 7, 5, 6, 1] [0, 2, 3, 4, 9] rfl rfl rfl rfl (by decide)
              refine c_v (va_runV (As := [.int (nI ((rnd (lcgN x (k + 1))).toInt.toNat))]) (rest := []) ⟨hx, hb, hml, hown, hts⟩ (m_X4_turn l G Fk_16 H.size mo (nI 0) aT T.length aN aL aP aD hs.length aK aZ aG aB bl9 bp9 aS tl9 ((rnd (lcgN x (k + 1))).toInt.toNat) fL9 gk fS9 fG9 fB9 fP9 (hp45_3) (hp45_2) ((rnd_nat _).1)) (cwV 1 hts (lw_V q1755 q1757 qs37 q44 q1758) rfl rfl rfl (by decide +kernel) ⟨Nat.le_of_ble_eq_true rfl, Nat.le_of_ble_eq_true rfl⟩) (sp_preV hE hS hFk_16 hPk_16 trivial (sp_recv (ci := 3) hK (hSep.cel (k := 8) rfl) rfl)) rfl rfl hl.1 rfl (lv_room (Nat.le_of_ble_eq_true rfl)) dX4_simulate_80 ⟨by first | exact Nat.le_of_ble_eq_true rfl | omega | (dsimp only; omega), by first | exact Nat.le_of_ble_eq_true rfl | omega | (dsimp only; omega)⟩) hS hFk_16 hJk_16 (fun u_18 H locs hpk_16 hSep hS hzk_16 => ?_)
              obtain ⟨f8, bl4_19, bp4_20, tl4_21, fS4_22, fG4_23, fB4_24, fP4_25⟩ := u_18
              have hpk_16 : Enc f8 (gStir gk ((rnd (lcgN x (k + 1))).toInt.toNat)) := hpk_16
              refine W.cs (cells' := 0) (slots' := 0) rfl rfl ?_
              have hSep : Sep G.1 clA (Fz F s.heap.size) [pts aT (.inl (G.2.1 0, 20, .inl fT)), pts aD (.inl (G.2.1 0, 1246, .inl fD)), pts aK (.inl (G.2.1 0, 178, .inl fK)), pts aZ (.inl (G.2.1 2, 2, .inl fZ)), pts aN (.inl (G.2.1 0, 89, .inl fN)), pts mo (.inr (3, [.int (nI 0), .ref aT, .int (nI T.length), .ref aN, .ref aL, .ref aP, .ref aD, .int (nI hs.length), .ref aK, .ref aZ, .ref aG, .ref aB, .int (nI bl4_19), .int bp4_20, .ref aS, .int (nI tl4_21)])), pts aL (.inl (G.2.1 0, 89, .inl f8)), pts aS (.inl (G.2.1 0, 5, .inl fS4_22)), pts aG (.inl (G.2.1 0, 18, .inl fG4_23)), pts aB (.inl (G.2.1 0, 5, .inl fB4_24)), pts aP (.inl (G.2.1 0, 89, .inl fP4_25))] H := hSep
              have hf8 := hpk_16
              refine lv_iinc (v := (nI (k + 1))) (lv' := [(6, .int (nI (k + 1))), (4, .long (lcgN x (k + 1))), (0, .ref mo), (1, .long x), (3, .int (nI n9))]) hx hb dX4_simulate_83 hl (k := 1) rfl (nI_inc k 1) (by decide) rfl (fun ls hl => ?_)
              refine lv_goto (tgt := 45) hx hb dX4_simulate_86 (by decide) ?_
              exact ih45 (k + 1) (gStir gk (rnd (lcgN x (k + 1))).toInt.toNat) f8 bl4_19 bp4_20 tl4_21 fS4_22 fG4_23 fB4_24 fP4_25 (by omega) (by omega) (gSim_pt hp45_1 (by omega) c58) (gOk_stir hp45_2 _) (hf8) _ _ _ (hSep.pick [0, 10, 1, 2, 3, 8, 9, 7, 5, 4, 6] rfl rfl) hS (lv_sub hl [0, 1, 2, 3, 4] rfl)
      exact L45 (n9 - 0 + 1) 0 g (va_cpy fN fL 0 0 89) bl bp tl fS fG fB fP (Nat.lt_succ_self _) (Nat.zero_le _) (rfl) (ho) (he.congr ho (fun i hi => by rw [pk_cpy_in (by omega) (by omega)]; congr 1; omega)) _ _ _ hSep hS (lv_sub hl [0, 1, 2, 3, 4] rfl)
    · obtain ⟨hx1, hop⟩ := hrf.resolve_right (fun h => absurd (of_decide_eq_true c21) (by rw [h.1]; decide))
      refine lv_iconst (v := (nI 0)) hx hb dX4_simulate_24 (by decide) ?_
      rw [hQ]
      exact r_i (r := (nI 0)) (u := ()) hx hb hr (by rw [hop]; exact fun h => absurd h hx1) (by rw [hop]; exact mod_close (hSep.pick [10, 0, 1, 2, 3, 4, 5, 6, 7, 8, 9] rfl rfl) rfl rfl rfl hC) hS (by first | exact Nat.le_of_ble_eq_true rfl | omega | (dsimp only; omega)) (by first | exact Nat.le_of_ble_eq_true rfl | omega | (dsimp only; omega)) dX4_simulate_25 hlocks
  refine lv_aload_n hx hb dX4_simulate_0 rfl (lv_at hl 0 rfl) ?_
  refine lv_iload_n hx hb dX4_simulate_1 rfl (lv_at hl 2 rfl) ?_
  refine lv_i2l hx hb dX4_simulate_2 rfl ?_
  refine lv_lconst (v := 1) hx hb dX4_simulate_3 (by decide) ?_
  refine lv_ldc2 (v := 20) hx hb hown (hts _ q1754) dX4_simulate_4 ?_
  have hFk_26 : ∀ q, Fz (fun _ => False) s.heap.size q → (Fz F s.heap.size) q := fun q h => by rcases h with h | h; exact h.elim; exact Fz.new (Nat.le_trans hS.1 h)
  have hPk_26 : Sep G.1 clA (Fz (fun _ => False) s.heap.size) [] s.heap := sp_nil
  have hJk_26 := sp_nilJ (F := (fun _ => False)) hSep (fun _ => id) hFk_26
  refine c_i (va_runS (As := [.long n.toInt64, .long (1 : Int64), .long (20 : Int64)]) (rest := [.ref mo]) ⟨hx, hb, hml, hown, hts⟩ (m_X4_in l G s.heap.size n.toInt64 (1 : Int64) (20 : Int64) ) (va_cwS 3 hts (lw_S q1532 q1533 q44 q1534) rfl rfl rfl (by decide +kernel) ⟨Nat.le_of_ble_eq_true rfl, Nat.le_of_ble_eq_true rfl⟩) (sp_preS hE hS hFk_26 hPk_26 trivial) rfl rfl hl.1 rfl (lv_room (Nat.le_of_ble_eq_true rfl)) dX4_simulate_7 ⟨by first | exact Nat.le_of_ble_eq_true rfl | omega | (dsimp only; omega), by first | exact Nat.le_of_ble_eq_true rfl | omega | (dsimp only; omega)⟩) hS hFk_26 hJk_26 (fun r_27 u_28 H locs hpk_26 hSep hS hzk_26 => ?_)
  obtain rfl : r_27 = (bI (inR n.toInt64.toInt (1 : Int64).toInt (20 : Int64).toInt)) := hpk_26
  refine W.cs (cells' := 0) (slots' := 0) rfl rfl ?_
  have hSep : Sep G.1 clA (Fz F s.heap.size) [pts mo (.inr (3, [.int rf, .ref aT, .int (nI T.length), .ref aN, .ref aL, .ref aP, .ref aD, .int (nI hs.length), .ref aK, .ref aZ, .ref aG, .ref aB, .int (nI bl), .int bp, .ref aS, .int (nI tl)])), pts aT (.inl (G.2.1 0, 20, .inl fT)), pts aN (.inl (G.2.1 0, 89, .inl fN)), pts aL (.inl (G.2.1 0, 89, .inl fL)), pts aP (.inl (G.2.1 0, 89, .inl fP)), pts aD (.inl (G.2.1 0, 1246, .inl fD)), pts aK (.inl (G.2.1 0, 178, .inl fK)), pts aZ (.inl (G.2.1 2, 2, .inl fZ)), pts aG (.inl (G.2.1 0, 18, .inl fG)), pts aB (.inl (G.2.1 0, 5, .inl fB)), pts aS (.inl (G.2.1 0, 5, .inl fS))] H := hSep
  refine n_eq (y := (bI (inR n.toInt 1 20))) (by rw [Int32.toInt_toInt64]; rfl) ?_
  refine b_if_eq (tgt := 17) hx hb dX4_simulate_10 (by decide) (fun c10 => ?_) (fun c10 => ?_)
  · refine lv_iconst (v := (nI 1)) hx hb dX4_simulate_17 (by decide) ?_
    exact L18 1 (Or.inl ⟨by decide, by unfold oSim; rw [if_pos c10]⟩) (by decide) _ _ _ hSep hS (lv_sub hl [0, 1, 2] rfl)
  · refine lv_iconst (v := (nI 0)) hx hb dX4_simulate_13 (by decide) ?_
    refine lv_goto (tgt := 18) hx hb dX4_simulate_14 (by decide) ?_
    exact L18 0 (Or.inr ⟨rfl, c10⟩) (by decide) _ _ _ hSep hS (lv_sub hl [0, 1, 2] rfl)

set_option maxHeartbeats 600000 in
set_option maxRecDepth 100000 in
theorem m_X4_runScript (l : Launch) (G : EVT) (F : Nat → Prop) (sz : Nat) (mo : Nat) (rf : Int32) (σ : MS) (n : Int32) (x : Int64)  : Met l yX4_runScript (ws_ yX4_runScript cX4_runScript 8 (some .int)) ({ frames := 7, cells := 0, slots := 0, locals := 184 } : Room) (SPc G F sz [.ref mo, .int n, .long x] [modA G mo rf σ] (fun _ => True)) (SQi G F sz (fun (r : Int32) (u : Unit) => (oScript σ n x).1 = 0 → r = (oScript σ n x).2.1) (fun (u : Unit) => [modA G mo (nI (oScript σ n x).1) (oScript σ n x).2.2])) (0) (0) (Fz F sz) := by
  refine sp_of RX4 (by decide) rfl (Nat.le_of_ble_eq_true rfl) ?_
  intro p e s m args below meth c ls QQ hx hb hr hts hown hlocks hml hnm hsz hSep hΦ hE hS hl hQ
  subst hsz
  have hK := hE.1
  have hl : lv_has ls 8 [(0, .ref mo), (1, .int n), (2, .long x)] := hl
  obtain ⟨g, hs, kp, T⟩ := σ
  obtain ⟨aT, aN, aL, aP, aD, aK, aZ, aG, aB, aS, bl, bp, tl, fT, fN, fL, fP, fD, fK, fZ, fG, fB, fS, hC, hSep⟩ := mod_unpk hSep
  have hg : gV g := hC.1.1
  have ho : gOk g := hC.1.1.1
  have he : Enc fN g := hC.1.2
  have hT : Pre fT T := hC.2.2.2.1
  have hT20 : T.length ≤ 20 := hC.2.2.2.2.1
  have hT256 : ∀ w ∈ T, w < 256 := hC.2.2.2.2.2
  have hD14 : hs.length ≤ 14 := hC.2.1.1
  have L32 : ∀ (j : Nat) , (j ≤ 3) → (∀ n9 : Nat, 1 ≤ n9 → n9 ≤ 3 → n = nI n9 → j = n9) → ∀ (H : Heap) (locs : List Loc) (ls : Array Slot), Sep G.1 clA (Fz F s.heap.size) [pts mo (.inr (3, [.int rf, .ref aT, .int (nI T.length), .ref aN, .ref aL, .ref aP, .ref aD, .int (nI hs.length), .ref aK, .ref aZ, .ref aG, .ref aB, .int (nI bl), .int bp, .ref aS, .int (nI tl)])), pts aT (.inl (G.2.1 0, 20, .inl fT)), pts aN (.inl (G.2.1 0, 89, .inl fN)), pts aL (.inl (G.2.1 0, 89, .inl fL)), pts aP (.inl (G.2.1 0, 89, .inl fP)), pts aD (.inl (G.2.1 0, 1246, .inl fD)), pts aK (.inl (G.2.1 0, 178, .inl fK)), pts aZ (.inl (G.2.1 2, 2, .inl fZ)), pts aG (.inl (G.2.1 0, 18, .inl fG)), pts aB (.inl (G.2.1 0, 5, .inl fB)), pts aS (.inl (G.2.1 0, 5, .inl fS))] H → va_S (Fz F s.heap.size) s.heap H locs → lv_has ls 8 [(0, .ref mo), (1, .int n), (2, .long x), (4, .long (lN (1000 ^ j)))] → W p l e ({ frames := 7, cells := 0, slots := 0, locals := 184 } : Room) s m args below meth c H locs (0) (0) QQ (F0 m 32 ls []) := by
    intro j hp32_0 hp32_1 H locs ls hSep hS hl
    refine lv_aload_n hx hb dX4_runScript_32 rfl (lv_at hl 0 rfl) ?_
    have L62 : ∀ (x9 : Nat) , ((x9 ≠ 0 ∧ oScript (g, hs, kp, T) n x = (x9, 0, (g, hs, kp, T))) ∨ (x9 = 0 ∧ (inR n.toInt 1 3 = true ∧ inR x.toInt 0 (1000 ^ n.toInt.toNat - 1) = true))) → (x9 < 3) → ∀ (H : Heap) (locs : List Loc) (ls : Array Slot), Sep G.1 clA (Fz F s.heap.size) [pts mo (.inr (3, [.int rf, .ref aT, .int (nI T.length), .ref aN, .ref aL, .ref aP, .ref aD, .int (nI hs.length), .ref aK, .ref aZ, .ref aG, .ref aB, .int (nI bl), .int bp, .ref aS, .int (nI tl)])), pts aT (.inl (G.2.1 0, 20, .inl fT)), pts aN (.inl (G.2.1 0, 89, .inl fN)), pts aL (.inl (G.2.1 0, 89, .inl fL)), pts aP (.inl (G.2.1 0, 89, .inl fP)), pts aD (.inl (G.2.1 0, 1246, .inl fD)), pts aK (.inl (G.2.1 0, 178, .inl fK)), pts aZ (.inl (G.2.1 2, 2, .inl fZ)), pts aG (.inl (G.2.1 0, 18, .inl fG)), pts aB (.inl (G.2.1 0, 5, .inl fB)), pts aS (.inl (G.2.1 0, 5, .inl fS))] H → va_S (Fz F s.heap.size) s.heap H locs → lv_has ls 8 [(0, .ref mo), (1, .int n), (2, .long x), (4, .long (lN (1000 ^ j)))] → W p l e ({ frames := 7, cells := 0, slots := 0, locals := 184 } : Room) s m args below meth c H locs (0) (0) QQ (F0 m 62 ls [.int (nI x9), .ref mo]) := by
      intro x9 hrf hx9 H locs ls hSep hS hl
      obtain ⟨Fk_1, hFk_1, hPk_1, hJk_1⟩ := hSep.cut (Pc := [pts mo (.inr (3, [.int rf, .ref aT, .int (nI T.length), .ref aN, .ref aL, .ref aP, .ref aD, .int (nI hs.length), .ref aK, .ref aZ, .ref aG, .ref aB, .int (nI bl), .int bp, .ref aS, .int (nI tl)]))]) (Pr := [pts aT (.inl (G.2.1 0, 20, .inl fT)), pts aN (.inl (G.2.1 0, 89, .inl fN)), pts aL (.inl (G.2.1 0, 89, .inl fL)), pts aP (.inl (G.2.1 0, 89, .inl fP)), pts aD (.inl (G.2.1 0, 1246, .inl fD)), pts aK (.inl (G.2.1 0, 178, .inl fK)), pts aZ (.inl (G.2.1 2, 2, .inl fZ)), pts aG (.inl (G.2.1 0, 18, .inl fG)), pts aB (.inl (G.2.1 0, 5, .inl fB)), pts aS (.inl (G.2.1 0, 5, .inl fS))]) (fun q h => Fz.new (Nat.le_trans hS.1 h)) [0] [1, 2, 3, 4, 5, 6, 7, 8, 9, 10] rfl rfl rfl rfl (by decide)
      refine c_i (va_runV (As := [.int (nI x9)]) (rest := []) ⟨hx, hb, hml, hown, hts⟩ (m_X4_refused l G Fk_1 H.size mo rf aT T.length aN aL aP aD hs.length aK aZ aG aB bl bp aS tl x9 (by omega)) (cwV 1 hts (lw_V q1535 q1537 qs21 q44 q1538) rfl rfl rfl (by decide +kernel) ⟨Nat.le_of_ble_eq_true rfl, Nat.le_of_ble_eq_true rfl⟩) (sp_preV hE hS hFk_1 hPk_1 trivial (sp_recv (ci := 3) hK (hSep.cel (k := 0) rfl) rfl)) rfl rfl hl.1 rfl (lv_room (Nat.le_of_ble_eq_true rfl)) dX4_runScript_62 ⟨by first | exact Nat.le_of_ble_eq_true rfl | omega | (dsimp only; omega), by first | exact Nat.le_of_ble_eq_true rfl | omega | (dsimp only; omega)⟩) hS hFk_1 hJk_1 (fun r_2 u_3 H locs hpk_1 hSep hS hzk_1 => ?_)
      obtain rfl : r_2 = (bI (decide (0 < x9))) := hpk_1
      refine W.cs (cells' := 0) (slots' := 0) rfl rfl ?_
      have hSep : Sep G.1 clA (Fz F s.heap.size) [pts aT (.inl (G.2.1 0, 20, .inl fT)), pts aN (.inl (G.2.1 0, 89, .inl fN)), pts aL (.inl (G.2.1 0, 89, .inl fL)), pts aP (.inl (G.2.1 0, 89, .inl fP)), pts aD (.inl (G.2.1 0, 1246, .inl fD)), pts aK (.inl (G.2.1 0, 178, .inl fK)), pts aZ (.inl (G.2.1 2, 2, .inl fZ)), pts aG (.inl (G.2.1 0, 18, .inl fG)), pts aB (.inl (G.2.1 0, 5, .inl fB)), pts aS (.inl (G.2.1 0, 5, .inl fS)), pts mo (.inr (3, [.int (nI x9), .ref aT, .int (nI T.length), .ref aN, .ref aL, .ref aP, .ref aD, .int (nI hs.length), .ref aK, .ref aZ, .ref aG, .ref aB, .int (nI bl), .int bp, .ref aS, .int (nI tl)]))] H := hSep
      refine b_if_eq (tgt := 70) hx hb dX4_runScript_65 (by decide) (fun c65 => ?_) (fun c65 => ?_)
      · obtain ⟨hx0, hgd⟩ := hrf.resolve_left (fun h => h.1 (by have := of_decide_eq_false c65; omega))
        subst hx0
        obtain ⟨n9, hn90, hn91, rfl⟩ := inR_lo (a := 1) (b := 3) hgd.1
        have ej := hp32_1 n9 hn90 hn91 rfl
        subst ej
        have hj92 : j < 2 ^ 31 := by omega
        obtain ⟨v, hv1, hv2, rfl⟩ := inL_n hp32_0 (by have h9 := hgd.2; rw [nI_toInt hj92, Int.toNat_natCast] at h9; exact h9)
        refine lv_aload_n hx hb dX4_runScript_70 rfl (lv_at hl 0 rfl) ?_
        refine va_get (D := G.1) (ci := 3) (v := .ref aN) (C := RX4) (T := TX4) (N := 16) hx hb hts in_X4 hown hK (hSep.cel (k := 10) rfl) 0 rfl rfl 3 (by decide) (hts _ q1476) (fun _ h9 => h9) rfl dX4_runScript_71 ?_
        refine lv_iconst (v := (nI 0)) hx hb dX4_runScript_74 (by decide) ?_
        refine lv_aload_n hx hb dX4_runScript_75 rfl (lv_at hl 0 rfl) ?_
        refine va_get (D := G.1) (ci := 3) (v := .ref aL) (C := RX4) (T := TX4) (N := 16) hx hb hts in_X4 hown hK (hSep.cel (k := 10) rfl) 0 rfl rfl 4 (by decide) (hts _ q1477) (fun _ h9 => h9) rfl dX4_runScript_76 ?_
        refine lv_iconst (v := (nI 0)) hx hb dX4_runScript_79 (by decide) ?_
        obtain ⟨Fk_4, hFk_4, hPk_4, hJk_4⟩ := hSep.cut (Pc := [pts aN (.inl (G.2.1 0, 89, .inl fN)), pts aL (.inl (G.2.1 0, 89, .inl fL))]) (Pr := [pts aT (.inl (G.2.1 0, 20, .inl fT)), pts aP (.inl (G.2.1 0, 89, .inl fP)), pts aD (.inl (G.2.1 0, 1246, .inl fD)), pts aK (.inl (G.2.1 0, 178, .inl fK)), pts aZ (.inl (G.2.1 2, 2, .inl fZ)), pts aG (.inl (G.2.1 0, 18, .inl fG)), pts aB (.inl (G.2.1 0, 5, .inl fB)), pts aS (.inl (G.2.1 0, 5, .inl fS)), pts mo (.inr (3, [.int (nI 0), .ref aT, .int (nI T.length), .ref aN, .ref aL, .ref aP, .ref aD, .int (nI hs.length), .ref aK, .ref aZ, .ref aG, .ref aB, .int (nI bl), .int bp, .ref aS, .int (nI tl)]))]) (fun q h => Fz.new (Nat.le_trans hS.1 h)) [1, 2] [0, 3, 4, 5, 6, 7, 8, 9, 10] rfl rfl rfl rfl (by decide)
        refine c_v (va_runS (As := [.ref aN, .int (nI 0), .ref aL, .int (nI 0)]) (rest := []) ⟨hx, hb, hml, hown, hts⟩ (m_X4_copyState l G Fk_4 H.size aN 89 fN 0 aL 89 fL 0 (by decide) (by decide) (by decide) (by decide)) (va_cwS 4 hts (lw_S q1616 q1617 q44 q1618) rfl rfl rfl (by decide +kernel) ⟨Nat.le_of_ble_eq_true rfl, Nat.le_of_ble_eq_true rfl⟩) (sp_preS hE hS hFk_4 hPk_4 trivial) rfl rfl hl.1 rfl (lv_room (Nat.le_of_ble_eq_true rfl)) dX4_runScript_80 ⟨by first | exact Nat.le_of_ble_eq_true rfl | omega | (dsimp only; omega), by first | exact Nat.le_of_ble_eq_true rfl | omega | (dsimp only; omega)⟩) hS hFk_4 hJk_4 (fun u_6 H locs hpk_4 hSep hS hzk_4 => ?_)
        refine W.cs (cells' := 0) (slots' := 0) rfl rfl ?_
        have hSep : Sep G.1 clA (Fz F s.heap.size) [pts aT (.inl (G.2.1 0, 20, .inl fT)), pts aP (.inl (G.2.1 0, 89, .inl fP)), pts aD (.inl (G.2.1 0, 1246, .inl fD)), pts aK (.inl (G.2.1 0, 178, .inl fK)), pts aZ (.inl (G.2.1 2, 2, .inl fZ)), pts aG (.inl (G.2.1 0, 18, .inl fG)), pts aB (.inl (G.2.1 0, 5, .inl fB)), pts aS (.inl (G.2.1 0, 5, .inl fS)), pts mo (.inr (3, [.int (nI 0), .ref aT, .int (nI T.length), .ref aN, .ref aL, .ref aP, .ref aD, .int (nI hs.length), .ref aK, .ref aZ, .ref aG, .ref aB, .int (nI bl), .int bp, .ref aS, .int (nI tl)])), pts aN (.inl (G.2.1 0, 89, .inl fN)), pts aL (.inl (G.2.1 0, 89, .inl (va_cpy fN fL 0 0 89)))] H := hSep
        refine lv_iconst (v := (nI 0)) hx hb dX4_runScript_83 (by decide) ?_
        refine lv_istore (lv' := [(6, .int (nI 0)), (0, .ref mo), (1, .int (nI j)), (2, .long (lN v)), (4, .long (lN (1000 ^ j)))]) hx hb dX4_runScript_84 hl (by decide) rfl (fun ls hl => ?_)
        have L86 : ∀ (fu : Nat) (k : Nat) (gk : GS) (fL9 : Nat → Int32) (bl9 : Nat) (bp9 : Int32) (tl9 : Nat) (fS9 : Nat → Int32) (fG9 : Nat → Int32) (fB9 : Nat → Int32) (fP9 : Nat → Int32) , j - k < fu → (k ≤ j) → (gScr T j v j 0 g = gScr T j v (j - k) k gk) → (gOk gk) → (Enc fL9 gk) → ∀ (H : Heap) (locs : List Loc) (ls : Array Slot), Sep G.1 clA (Fz F s.heap.size) [pts aT (.inl (G.2.1 0, 20, .inl fT)), pts aP (.inl (G.2.1 0, 89, .inl fP9)), pts aD (.inl (G.2.1 0, 1246, .inl fD)), pts aK (.inl (G.2.1 0, 178, .inl fK)), pts aZ (.inl (G.2.1 2, 2, .inl fZ)), pts aG (.inl (G.2.1 0, 18, .inl fG9)), pts aB (.inl (G.2.1 0, 5, .inl fB9)), pts aS (.inl (G.2.1 0, 5, .inl fS9)), pts mo (.inr (3, [.int (nI 0), .ref aT, .int (nI T.length), .ref aN, .ref aL, .ref aP, .ref aD, .int (nI hs.length), .ref aK, .ref aZ, .ref aG, .ref aB, .int (nI bl9), .int bp9, .ref aS, .int (nI tl9)])), pts aN (.inl (G.2.1 0, 89, .inl fN)), pts aL (.inl (G.2.1 0, 89, .inl fL9))] H → va_S (Fz F s.heap.size) s.heap H locs → lv_has ls 8 [(6, .int (nI k)), (0, .ref mo), (1, .int (nI j)), (2, .long (lN v)), (4, .long (lN (1000 ^ (j - k))))] → W p l e ({ frames := 7, cells := 0, slots := 0, locals := 184 } : Room) s m args below meth c H locs (0) (0) QQ (F0 m 86 ls []) := by
          intro fu
          induction fu with
          | zero => intro k gk fL9 bl9 bp9 tl9 fS9 fG9 fB9 fP9 hm; exact absurd hm (Nat.not_lt_zero _)
          | succ fu ih86 =>
            intro k gk fL9 bl9 bp9 tl9 fS9 fG9 fB9 fP9 hm86 hp86_0 hp86_1 hp86_2 hp86_3 H locs ls hSep hS hl
            refine lv_iload hx hb dX4_runScript_86 (lv_at hl 0 rfl) ?_
            refine lv_iload_n hx hb dX4_runScript_88 rfl (lv_at hl 2 rfl) ?_
            refine n_icmp_ge (tgt := 145) hx hb (by omega) (by omega) dX4_runScript_89 (by decide) (fun c89 => ?_) (fun c89 => ?_)
            · obtain rfl : j = k := by omega
              refine lv_iconst (v := (-1)) hx hb dX4_runScript_145 (by decide) ?_
              have hop : oScript (g, hs, kp, T) (nI j) (lN v) = (0, -1, g, hs, kp, T) := by unfold oScript; rw [if_neg (fun h => h.elim (fun h => by rw [hgd.1] at h; cases h) (fun h => by rw [hgd.2] at h; cases h)), nI_toInt hj92, Int.toNat_natCast, pk_lT hv1, Int.toNat_natCast]; exact congrArg (fun v => (0, v, _)) (by rw [hp86_1, Nat.sub_self]; rfl)
              rw [hQ]
              exact r_i (r := (-1)) (u := ()) hx hb hr (by rw [hop]; exact fun _ => rfl) (by rw [hop]; exact mod_close (hSep.pick [8, 0, 9, 10, 1, 2, 3, 4, 5, 6, 7] rfl rfl) rfl rfl rfl hC) hS (by first | exact Nat.le_of_ble_eq_true rfl | omega | (dsimp only; omega)) (by first | exact Nat.le_of_ble_eq_true rfl | omega | (dsimp only; omega)) dX4_runScript_146 hlocks
            · refine lv_lload hx hb dX4_runScript_92 (lv_at hl 4 rfl) ?_
              refine lv_ldc2 (v := 1000) hx hb hown (hts _ q1745) dX4_runScript_94 ?_
              refine lv_ldiv hx hb dX4_runScript_97 (by decide) ?_
              refine n_eql (y := (lN (1000 ^ (j - (k + 1))))) (by rw [show (1000 : Int64) = lN 1000 from rfl, pk_lDiv (by have := th_le (show j - k ≤ 3 by omega); omega) (by decide) (by decide), show j - k = j - (k + 1) + 1 by omega, th_div]) ?_
              refine lv_lstore (lv' := [(4, .long (lN (1000 ^ (j - (k + 1))))), (6, .int (nI k)), (0, .ref mo), (1, .int (nI j)), (2, .long (lN v))]) hx hb dX4_runScript_98 hl (by decide) rfl (fun ls hl => ?_)
              refine lv_lload_n hx hb dX4_runScript_100 rfl (lv_at hl 4 rfl) ?_
              refine lv_lload hx hb dX4_runScript_101 (lv_at hl 0 rfl) ?_
              refine lv_ldiv hx hb dX4_runScript_103 (lN_nz (by omega)) ?_
              refine n_eql (y := (lN (v / 1000 ^ (j - (k + 1))))) (pk_lDiv hv1 (by have := th_le (show j - (k + 1) ≤ 3 by omega); omega) (by have := th_le (show j - (k + 1) ≤ 3 by omega); omega)) ?_
              refine lv_ldc2 (v := 1000) hx hb hown (hts _ q1745) dX4_runScript_104 ?_
              refine lv_lrem hx hb dX4_runScript_107 (by decide) ?_
              refine n_eql (y := (lN (v / 1000 ^ (j - (k + 1)) % 1000))) (pk_lRem (b := 1000) (Nat.lt_of_le_of_lt (Nat.div_le_self _ _) hv1) (by decide) (by decide)) ?_
              refine lv_l2i hx hb dX4_runScript_108 rfl ?_
              refine n_eq (y := (nI (grp j v k))) (by rw [lN_i]; unfold grp; rw [show j - 1 - k = j - (k + 1) by omega]) ?_
              refine lv_istore (lv' := [(7, .int (nI (grp j v k))), (4, .long (lN (1000 ^ (j - (k + 1))))), (6, .int (nI k)), (0, .ref mo), (1, .int (nI j)), (2, .long (lN v))]) hx hb dX4_runScript_109 hl (by decide) rfl (fun ls hl => ?_)
              have hgr : grp j v k < 1000 := Nat.mod_lt _ (by decide)
              refine lv_aload_n hx hb dX4_runScript_111 rfl (lv_at hl 3 rfl) ?_
              refine lv_iload hx hb dX4_runScript_112 (lv_at hl 0 rfl) ?_
              refine lv_bipush (v := (nI 100)) hx hb dX4_runScript_114 (by decide) ?_
              refine n_idiv hx hb (by omega) (by omega) (by omega) dX4_runScript_116 ?_
              refine lv_iload hx hb dX4_runScript_117 (lv_at hl 0 rfl) ?_
              refine lv_bipush (v := (nI 10)) hx hb dX4_runScript_119 (by decide) ?_
              refine n_idiv hx hb (by omega) (by omega) (by omega) dX4_runScript_121 ?_
              refine lv_bipush (v := (nI 10)) hx hb dX4_runScript_122 (by decide) ?_
              refine n_irem hx hb (by omega) (by omega) (by omega) dX4_runScript_124 ?_
              refine lv_iload hx hb dX4_runScript_125 (lv_at hl 0 rfl) ?_
              refine lv_bipush (v := (nI 10)) hx hb dX4_runScript_127 (by decide) ?_
              refine n_irem hx hb (by omega) (by omega) (by omega) dX4_runScript_129 ?_
              obtain ⟨Fk_7, hFk_7, hPk_7, hJk_7⟩ := hSep.cut (Pc := [pts mo (.inr (3, [.int (nI 0), .ref aT, .int (nI T.length), .ref aN, .ref aL, .ref aP, .ref aD, .int (nI hs.length), .ref aK, .ref aZ, .ref aG, .ref aB, .int (nI bl9), .int bp9, .ref aS, .int (nI tl9)])), pts aT (.inl (G.2.1 0, 20, .inl fT)), pts aL (.inl (G.2.1 0, 89, .inl fL9)), pts aS (.inl (G.2.1 0, 5, .inl fS9)), pts aG (.inl (G.2.1 0, 18, .inl fG9)), pts aB (.inl (G.2.1 0, 5, .inl fB9)), pts aP (.inl (G.2.1 0, 89, .inl fP9))]) (Pr := [pts aD (.inl (G.2.1 0, 1246, .inl fD)), pts aK (.inl (G.2.1 0, 178, .inl fK)), pts aZ (.inl (G.2.1 2, 2, .inl fZ)), pts aN (.inl (G.2.1 0, 89, .inl fN))]) (fun q h => Fz.new (Nat.le_trans hS.1 h)) [8, 0, 10, 7, 5, 6, 1] [2, 3, 4, 9] rfl rfl rfl rfl (by decide)
              refine c_i (va_runV (As := [.int (nI ((grp j v k) / 100)), .int (nI (((grp j v k) / 10) % 10)), .int (nI ((grp j v k) % 10))]) (rest := []) ⟨hx, hb, hml, hown, hts⟩ (m_X4_command l G Fk_7 H.size mo (nI 0) aT T.length aN aL aP aD hs.length aK aZ aG aB bl9 bp9 aS tl9 T fT ((grp j v k) / 100) (((grp j v k) / 10) % 10) ((grp j v k) % 10) fL9 gk fS9 fG9 fB9 fP9 (by first | assumption | omega) (by first | assumption | omega) (by first | assumption | omega) (by first | assumption | omega) (hp86_3) (hp86_2) (by first | assumption | omega) (by first | assumption | omega) (by first | assumption | omega)) (cwV 3 hts (lw_V q1746 q1748 qs36 q44 q1749) rfl rfl rfl (by decide +kernel) ⟨Nat.le_of_ble_eq_true rfl, Nat.le_of_ble_eq_true rfl⟩) (sp_preV hE hS hFk_7 hPk_7 trivial (sp_recv (ci := 3) hK (hSep.cel (k := 8) rfl) rfl)) rfl rfl hl.1 rfl (lv_room (Nat.le_of_ble_eq_true rfl)) dX4_runScript_130 ⟨by first | exact Nat.le_of_ble_eq_true rfl | omega | (dsimp only; omega), by first | exact Nat.le_of_ble_eq_true rfl | omega | (dsimp only; omega)⟩) hS hFk_7 hJk_7 (fun r_8 u_9 H locs hpk_7 hSep hS hzk_7 => ?_)
              obtain ⟨f8, bl4_10, bp4_11, tl4_12, fS4_13, fG4_14, fB4_15, fP4_16⟩ := u_9
              obtain ⟨rfl, hpk_7⟩ : r_8 = (bI ((gCmd gk T ((grp j v k) / 100) (((grp j v k) / 10) % 10) ((grp j v k) % 10)).1)) ∧ Enc f8 (gCmd gk T ((grp j v k) / 100) (((grp j v k) / 10) % 10) ((grp j v k) % 10)).2 := hpk_7
              refine W.cs (cells' := 0) (slots' := 0) rfl rfl ?_
              have hSep : Sep G.1 clA (Fz F s.heap.size) [pts aD (.inl (G.2.1 0, 1246, .inl fD)), pts aK (.inl (G.2.1 0, 178, .inl fK)), pts aZ (.inl (G.2.1 2, 2, .inl fZ)), pts aN (.inl (G.2.1 0, 89, .inl fN)), pts mo (.inr (3, [.int (nI 0), .ref aT, .int (nI T.length), .ref aN, .ref aL, .ref aP, .ref aD, .int (nI hs.length), .ref aK, .ref aZ, .ref aG, .ref aB, .int (nI bl4_10), .int bp4_11, .ref aS, .int (nI tl4_12)])), pts aT (.inl (G.2.1 0, 20, .inl fT)), pts aL (.inl (G.2.1 0, 89, .inl f8)), pts aS (.inl (G.2.1 0, 5, .inl fS4_13)), pts aG (.inl (G.2.1 0, 18, .inl fG4_14)), pts aB (.inl (G.2.1 0, 5, .inl fB4_15)), pts aP (.inl (G.2.1 0, 89, .inl fP4_16))] H := hSep
              have hf8 := hpk_7
              refine b_if_ne (tgt := 139) hx hb dX4_runScript_133 (by decide) (fun c133 => ?_) (fun c133 => ?_)
              · refine lv_iinc (v := (nI (k + 1))) (lv' := [(6, .int (nI (k + 1))), (7, .int (nI (grp j v k))), (4, .long (lN (1000 ^ (j - (k + 1))))), (0, .ref mo), (1, .int (nI j)), (2, .long (lN v))]) hx hb dX4_runScript_139 hl (k := 2) rfl (nI_inc k 1) (by decide) rfl (fun ls hl => ?_)
                refine lv_goto (tgt := 86) hx hb dX4_runScript_142 (by decide) ?_
                exact ih86 (k + 1) ((gCmd gk T (grp j v k / 100) (grp j v k / 10 % 10) (grp j v k % 10)).2) f8 bl4_10 bp4_11 tl4_12 fS4_13 fG4_14 fB4_15 fP4_16 (by omega) (by omega) (gScr_s hp86_1 (by omega) c133) (gOk_cmd hp86_2 _ _ _ _) (hf8) _ _ _ (hSep.pick [5, 10, 0, 1, 2, 8, 9, 7, 4, 3, 6] rfl rfl) hS (lv_sub hl [0, 3, 4, 5, 2] rfl)
              · refine lv_iload hx hb dX4_runScript_136 (lv_at hl 2 rfl) ?_
                have hop : oScript (g, hs, kp, T) (nI j) (lN v) = (0, nI k, g, hs, kp, T) := by unfold oScript; rw [if_neg (fun h => h.elim (fun h => by rw [hgd.1] at h; cases h) (fun h => by rw [hgd.2] at h; cases h)), nI_toInt hj92, Int.toNat_natCast, pk_lT hv1, Int.toNat_natCast]; exact congrArg (fun v => (0, v, _)) (gScr_n hp86_1 (by omega) c133)
                rw [hQ]
                exact r_i (r := (nI k)) (u := ()) hx hb hr (by rw [hop]; exact fun _ => rfl) (by rw [hop]; exact mod_close (hSep.pick [4, 5, 3, 6, 10, 0, 1, 2, 8, 9, 7] rfl rfl) rfl rfl rfl hC) hS (by first | exact Nat.le_of_ble_eq_true rfl | omega | (dsimp only; omega)) (by first | exact Nat.le_of_ble_eq_true rfl | omega | (dsimp only; omega)) dX4_runScript_138 hlocks
        exact L86 (j - 0 + 1) 0 g (va_cpy fN fL 0 0 89) bl bp tl fS fG fB fP (Nat.lt_succ_self _) (Nat.zero_le _) (rfl) (ho) (he.congr ho (fun i hi => by rw [pk_cpy_in (by omega) (by omega)]; congr 1; omega)) _ _ _ hSep hS (lv_sub hl [0, 1, 2, 3, 4] rfl)
      · obtain ⟨hx1, hop⟩ := hrf.resolve_right (fun h => absurd (of_decide_eq_true c65) (by rw [h.1]; decide))
        refine lv_iconst (v := (nI 0)) hx hb dX4_runScript_68 (by decide) ?_
        rw [hQ]
        exact r_i (r := (nI 0)) (u := ()) hx hb hr (by rw [hop]; exact fun h => absurd h hx1) (by rw [hop]; exact mod_close (hSep.pick [10, 0, 1, 2, 3, 4, 5, 6, 7, 8, 9] rfl rfl) rfl rfl rfl hC) hS (by first | exact Nat.le_of_ble_eq_true rfl | omega | (dsimp only; omega)) (by first | exact Nat.le_of_ble_eq_true rfl | omega | (dsimp only; omega)) dX4_runScript_69 hlocks
    refine lv_iload_n hx hb dX4_runScript_33 rfl (lv_at hl 1 rfl) ?_
    refine lv_i2l hx hb dX4_runScript_34 rfl ?_
    refine lv_lconst (v := 1) hx hb dX4_runScript_35 (by decide) ?_
    refine lv_ldc2 (v := 3) hx hb hown (hts _ q1599) dX4_runScript_36 ?_
    have hFk_17 : ∀ q, Fz (fun _ => False) H.size q → (Fz F s.heap.size) q := fun q h => by rcases h with h | h; exact h.elim; exact Fz.new (Nat.le_trans hS.1 h)
    have hPk_17 : Sep G.1 clA (Fz (fun _ => False) H.size) [] H := sp_nil
    have hJk_17 := sp_nilJ (F := (fun _ => False)) hSep (fun _ => id) hFk_17
    refine c_i (va_runS (As := [.long n.toInt64, .long (1 : Int64), .long (3 : Int64)]) (rest := [.ref mo]) ⟨hx, hb, hml, hown, hts⟩ (m_X4_in l G H.size n.toInt64 (1 : Int64) (3 : Int64) ) (va_cwS 3 hts (lw_S q1532 q1533 q44 q1534) rfl rfl rfl (by decide +kernel) ⟨Nat.le_of_ble_eq_true rfl, Nat.le_of_ble_eq_true rfl⟩) (sp_preS hE hS hFk_17 hPk_17 trivial) rfl rfl hl.1 rfl (lv_room (Nat.le_of_ble_eq_true rfl)) dX4_runScript_39 ⟨by first | exact Nat.le_of_ble_eq_true rfl | omega | (dsimp only; omega), by first | exact Nat.le_of_ble_eq_true rfl | omega | (dsimp only; omega)⟩) hS hFk_17 hJk_17 (fun r_18 u_19 H locs hpk_17 hSep hS hzk_17 => ?_)
    obtain rfl : r_18 = (bI (inR n.toInt64.toInt (1 : Int64).toInt (3 : Int64).toInt)) := hpk_17
    refine W.cs (cells' := 0) (slots' := 0) rfl rfl ?_
    have hSep : Sep G.1 clA (Fz F s.heap.size) [pts mo (.inr (3, [.int rf, .ref aT, .int (nI T.length), .ref aN, .ref aL, .ref aP, .ref aD, .int (nI hs.length), .ref aK, .ref aZ, .ref aG, .ref aB, .int (nI bl), .int bp, .ref aS, .int (nI tl)])), pts aT (.inl (G.2.1 0, 20, .inl fT)), pts aN (.inl (G.2.1 0, 89, .inl fN)), pts aL (.inl (G.2.1 0, 89, .inl fL)), pts aP (.inl (G.2.1 0, 89, .inl fP)), pts aD (.inl (G.2.1 0, 1246, .inl fD)), pts aK (.inl (G.2.1 0, 178, .inl fK)), pts aZ (.inl (G.2.1 2, 2, .inl fZ)), pts aG (.inl (G.2.1 0, 18, .inl fG)), pts aB (.inl (G.2.1 0, 5, .inl fB)), pts aS (.inl (G.2.1 0, 5, .inl fS))] H := hSep
    refine n_eq (y := (bI (inR n.toInt 1 3))) (by rw [Int32.toInt_toInt64]; rfl) ?_
    refine b_if_eq (tgt := 61) hx hb dX4_runScript_42 (by decide) (fun c42 => ?_) (fun c42 => ?_)
    · refine lv_iconst (v := (nI 1)) hx hb dX4_runScript_61 (by decide) ?_
      exact L62 1 (Or.inl ⟨by decide, by unfold oScript; first | rw [if_pos (Or.inl (show inR n.toInt 1 3 = false from c42))] | rw [if_pos (Or.inr (show inR x.toInt 0 (1000 ^ n.toInt.toNat - 1) = false from (by rw [← hj9]; exact c54)))]⟩) (by decide) _ _ _ hSep hS (lv_sub hl [0, 1, 2, 3] rfl)
    · have hj9 : j = n.toInt.toNat := by obtain ⟨n9, h1, h3, rfl⟩ := inR_lo (a := 1) (b := 3) c42; rw [nI_toInt (by omega), Int.toNat_natCast]; exact hp32_1 n9 h1 h3 rfl
      refine lv_lload_n hx hb dX4_runScript_45 rfl (lv_at hl 2 rfl) ?_
      refine lv_lconst (v := 0) hx hb dX4_runScript_46 (by decide) ?_
      refine lv_lload hx hb dX4_runScript_47 (lv_at hl 3 rfl) ?_
      refine lv_lconst (v := 1) hx hb dX4_runScript_49 (by decide) ?_
      refine lv_lsub hx hb dX4_runScript_50 ?_
      have hFk_20 : ∀ q, Fz (fun _ => False) H.size q → (Fz F s.heap.size) q := fun q h => by rcases h with h | h; exact h.elim; exact Fz.new (Nat.le_trans hS.1 h)
      have hPk_20 : Sep G.1 clA (Fz (fun _ => False) H.size) [] H := sp_nil
      have hJk_20 := sp_nilJ (F := (fun _ => False)) hSep (fun _ => id) hFk_20
      refine c_i (va_runS (As := [.long x, .long (0 : Int64), .long ((lN (1000 ^ j)) - (1 : Int64))]) (rest := [.ref mo]) ⟨hx, hb, hml, hown, hts⟩ (m_X4_in l G H.size x (0 : Int64) ((lN (1000 ^ j)) - (1 : Int64)) ) (va_cwS 3 hts (lw_S q1532 q1533 q44 q1534) rfl rfl rfl (by decide +kernel) ⟨Nat.le_of_ble_eq_true rfl, Nat.le_of_ble_eq_true rfl⟩) (sp_preS hE hS hFk_20 hPk_20 trivial) rfl rfl hl.1 rfl (lv_room (Nat.le_of_ble_eq_true rfl)) dX4_runScript_51 ⟨by first | exact Nat.le_of_ble_eq_true rfl | omega | (dsimp only; omega), by first | exact Nat.le_of_ble_eq_true rfl | omega | (dsimp only; omega)⟩) hS hFk_20 hJk_20 (fun r_21 u_22 H locs hpk_20 hSep hS hzk_20 => ?_)
      obtain rfl : r_21 = (bI (inR x.toInt (0 : Int64).toInt ((lN (1000 ^ j)) - (1 : Int64)).toInt)) := hpk_20
      refine W.cs (cells' := 0) (slots' := 0) rfl rfl ?_
      have hSep : Sep G.1 clA (Fz F s.heap.size) [pts mo (.inr (3, [.int rf, .ref aT, .int (nI T.length), .ref aN, .ref aL, .ref aP, .ref aD, .int (nI hs.length), .ref aK, .ref aZ, .ref aG, .ref aB, .int (nI bl), .int bp, .ref aS, .int (nI tl)])), pts aT (.inl (G.2.1 0, 20, .inl fT)), pts aN (.inl (G.2.1 0, 89, .inl fN)), pts aL (.inl (G.2.1 0, 89, .inl fL)), pts aP (.inl (G.2.1 0, 89, .inl fP)), pts aD (.inl (G.2.1 0, 1246, .inl fD)), pts aK (.inl (G.2.1 0, 178, .inl fK)), pts aZ (.inl (G.2.1 2, 2, .inl fZ)), pts aG (.inl (G.2.1 0, 18, .inl fG)), pts aB (.inl (G.2.1 0, 5, .inl fB)), pts aS (.inl (G.2.1 0, 5, .inl fS))] H := hSep
      refine n_eq (y := (bI (inR x.toInt 0 (1000 ^ j - 1)))) (congrArg bI (by rw [th_int hp32_0]; rfl)) ?_
      refine b_if_eq (tgt := 61) hx hb dX4_runScript_54 (by decide) (fun c54 => ?_) (fun c54 => ?_)
      · refine lv_iconst (v := (nI 1)) hx hb dX4_runScript_61 (by decide) ?_
        exact L62 1 (Or.inl ⟨by decide, by unfold oScript; first | rw [if_pos (Or.inl (show inR n.toInt 1 3 = false from c42))] | rw [if_pos (Or.inr (show inR x.toInt 0 (1000 ^ n.toInt.toNat - 1) = false from (by rw [← hj9]; exact c54)))]⟩) (by decide) _ _ _ hSep hS (lv_sub hl [0, 1, 2, 3] rfl)
      · refine lv_iconst (v := (nI 0)) hx hb dX4_runScript_57 (by decide) ?_
        refine lv_goto (tgt := 62) hx hb dX4_runScript_58 (by decide) ?_
        exact L62 0 (Or.inr ⟨rfl, ⟨c42, by rw [← hj9]; exact c54⟩⟩) (by decide) _ _ _ hSep hS (lv_sub hl [0, 1, 2, 3] rfl)
  refine lv_lconst (v := 1) hx hb dX4_runScript_0 (by decide) ?_
  refine n_eql (y := (lN (1000 ^ 0))) (rfl) ?_
  refine lv_lstore (lv' := [(4, .long (lN (1000 ^ 0))), (0, .ref mo), (1, .int n), (2, .long x)]) hx hb dX4_runScript_1 hl (by decide) rfl (fun ls hl => ?_)
  refine lv_iconst (v := (nI 0)) hx hb dX4_runScript_3 (by decide) ?_
  refine lv_istore (lv' := [(6, .int (nI 0)), (4, .long (lN (1000 ^ 0))), (0, .ref mo), (1, .int n), (2, .long x)]) hx hb dX4_runScript_4 hl (by decide) rfl (fun ls hl => ?_)
  have L6 : ∀ (fu : Nat) (k : Nat) , 3 - k < fu → (k ≤ 3) → (k = 0 ∨ (k : Int) ≤ n.toInt) → ∀ (H : Heap) (locs : List Loc) (ls : Array Slot), Sep G.1 clA (Fz F s.heap.size) [pts mo (.inr (3, [.int rf, .ref aT, .int (nI T.length), .ref aN, .ref aL, .ref aP, .ref aD, .int (nI hs.length), .ref aK, .ref aZ, .ref aG, .ref aB, .int (nI bl), .int bp, .ref aS, .int (nI tl)])), pts aT (.inl (G.2.1 0, 20, .inl fT)), pts aN (.inl (G.2.1 0, 89, .inl fN)), pts aL (.inl (G.2.1 0, 89, .inl fL)), pts aP (.inl (G.2.1 0, 89, .inl fP)), pts aD (.inl (G.2.1 0, 1246, .inl fD)), pts aK (.inl (G.2.1 0, 178, .inl fK)), pts aZ (.inl (G.2.1 2, 2, .inl fZ)), pts aG (.inl (G.2.1 0, 18, .inl fG)), pts aB (.inl (G.2.1 0, 5, .inl fB)), pts aS (.inl (G.2.1 0, 5, .inl fS))] H → va_S (Fz F s.heap.size) s.heap H locs → lv_has ls 8 [(6, .int (nI k)), (4, .long (lN (1000 ^ k))), (0, .ref mo), (1, .int n), (2, .long x)] → W p l e ({ frames := 7, cells := 0, slots := 0, locals := 184 } : Room) s m args below meth c H locs (0) (0) QQ (F0 m 6 ls []) := by
    intro fu
    induction fu with
    | zero => intro k hm; exact absurd hm (Nat.not_lt_zero _)
    | succ fu ih6 =>
      intro k hm6 hp6_0 hp6_1 H locs ls hSep hS hl
      refine lv_iload hx hb dX4_runScript_6 (lv_at hl 0 rfl) ?_
      refine lv_iload_n hx hb dX4_runScript_8 rfl (lv_at hl 3 rfl) ?_
      refine lv_icmp_ge (tgt := 32) hx hb dX4_runScript_9 (by decide) (fun c9 => ?_) (fun c9 => ?_)
      · exact L32 k (hp6_0) (fun n9 h1 h3 e => by subst e; rw [Int32.le_iff_toInt_le, nI_toInt (by omega), nI_toInt (by omega)] at c9; rw [nI_toInt (by omega)] at hp6_1; omega) _ _ _ hSep hS (lv_sub hl [2, 3, 4, 1] rfl)
      · refine lv_iload hx hb dX4_runScript_12 (lv_at hl 0 rfl) ?_
        refine lv_iconst (v := (nI 3)) hx hb dX4_runScript_14 (by decide) ?_
        refine n_icmp_ge (tgt := 32) hx hb (by omega) (by omega) dX4_runScript_15 (by decide) (fun c15 => ?_) (fun c15 => ?_)
        · exact L32 k (hp6_0) (fun n9 h1 h3 e => by subst e; rw [nI_toInt (by omega)] at hp6_1; omega) _ _ _ hSep hS (lv_sub hl [2, 3, 4, 1] rfl)
        · refine lv_lload hx hb dX4_runScript_18 (lv_at hl 1 rfl) ?_
          refine lv_ldc2 (v := 1000) hx hb hown (hts _ q1745) dX4_runScript_20 ?_
          refine lv_lmul hx hb dX4_runScript_23 ?_
          refine n_eql (y := (lN (1000 ^ (k + 1)))) (by rw [show (1000 : Int64) = lN 1000 from rfl, lN_mul, Nat.pow_succ]) ?_
          refine lv_lstore (lv' := [(4, .long (lN (1000 ^ (k + 1)))), (6, .int (nI k)), (0, .ref mo), (1, .int n), (2, .long x)]) hx hb dX4_runScript_24 hl (by decide) rfl (fun ls hl => ?_)
          refine lv_iinc (v := (nI (k + 1))) (lv' := [(6, .int (nI (k + 1))), (4, .long (lN (1000 ^ (k + 1)))), (0, .ref mo), (1, .int n), (2, .long x)]) hx hb dX4_runScript_26 hl (k := 1) rfl (nI_inc k 1) (by decide) rfl (fun ls hl => ?_)
          refine lv_goto (tgt := 6) hx hb dX4_runScript_29 (by decide) ?_
          exact ih6 (k + 1) (by omega) (by omega) (Or.inr (by have h9 := Int32.not_le.mp c9; rw [Int32.lt_iff_toInt_lt, nI_toInt (by omega)] at h9; omega)) _ _ _ hSep hS (lv_sub hl [0, 1, 2, 3, 4] rfl)
  exact L6 (3 - 0 + 1) 0 (Nat.lt_succ_self _) (by omega) (Or.inl rfl) _ _ _ hSep hS (lv_sub hl [0, 1, 2, 3, 4] rfl)
