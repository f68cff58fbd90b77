set_option maxRecDepth 100000
set_option maxHeartbeats 600000 in
set_option maxRecDepth 100000 in
theorem m_X4_command (l : Launch) (G : EVT) (F : Nat → Prop) (sz : Nat) (mo : Nat) (fR : Int32) (aT : Nat) (zs : Nat) (aN : Nat) (aL : Nat) (aP : Nat) (aD : Nat) (ac : Nat) (aK : Nat) (aZ : Nat) (aG : Nat) (aB : Nat) (bl : Nat) (bp : Int32) (aS : Nat) (tl : Nat) (T : List Nat) (fT : Nat → Int32) (how : Nat) (a1 : Nat) (b1 : Nat) (fL : Nat → Int32) (g : GS) (fS : Nat → Int32) (fG : Nat → Int32) (fB : Nat → Int32) (fP : Nat → Int32) (hT : Pre fT T) (hz : zs = T.length) (h20 : T.length ≤ 20) (h256 : ∀ w ∈ T, w < 256) (he : Enc fL g) (ho : gOk g) (hh : how ≤ 9) (ha : a1 ≤ 9) (hbb : b1 ≤ 9) : Met l yX4_command (ws_ yX4_command cX4_command 6 (some .boolean)) ({ frames := 6, cells := 0, slots := 0, locals := 159 } : Room) (SPc G F sz [.ref mo, .int (nI how), .int (nI a1), .int (nI b1)] [pts mo (.inr (3, [.int fR, .ref aT, .int (nI zs), .ref aN, .ref aL, .ref aP, .ref aD, .int (nI ac), .ref aK, .ref aZ, .ref aG, .ref aB, .int (nI bl), .int bp, .ref aS, .int (nI tl)])), pts aT (.inl (G.2.1 0, 20, .inl fT)), pts aL (.inl (G.2.1 0, 89, .inl fL)), pts aS (.inl (G.2.1 0, 5, .inl fS)), pts aG (.inl (G.2.1 0, 18, .inl fG)), pts aB (.inl (G.2.1 0, 5, .inl fB)), pts aP (.inl (G.2.1 0, 89, .inl fP))] (fun _ => True)) (SQi G F sz (fun (r : Int32) (u : (Nat → Int32) × Nat × Int32 × Nat × (Nat → Int32) × (Nat → Int32) × (Nat → Int32) × (Nat → Int32)) => r = (bI ((gCmd g T how a1 b1).1)) ∧ Enc u.1 (gCmd g T how a1 b1).2) (fun (u : (Nat → Int32) × Nat × Int32 × Nat × (Nat → Int32) × (Nat → Int32) × (Nat → Int32) × (Nat → Int32)) => [pts mo (.inr (3, [.int fR, .ref aT, .int (nI zs), .ref aN, .ref aL, .ref aP, .ref aD, .int (nI ac), .ref aK, .ref aZ, .ref aG, .ref aB, .int (nI u.2.1), .int u.2.2.1, .ref aS, .int (nI u.2.2.2.1)])), pts aT (.inl (G.2.1 0, 20, .inl fT)), pts aL (.inl (G.2.1 0, 89, .inl u.1)), pts aS (.inl (G.2.1 0, 5, .inl u.2.2.2.2.1)), pts aG (.inl (G.2.1 0, 18, .inl u.2.2.2.2.2.1)), pts aB (.inl (G.2.1 0, 5, .inl u.2.2.2.2.2.2.1)), pts aP (.inl (G.2.1 0, 89, .inl u.2.2.2.2.2.2.2))])) (0) (0) (Fz F sz) := by
  refine sp_of RX4 (by decide) rfl (Nat.le_of_ble_eq_true rfl) ?_
  intro p e s m args below meth c ls QQ hx hb hr hts hown hlocks hml hnm hsz hSep hΦ hE hS hl hQ
  subst hsz
  have hK := hE.1
  have hl : lv_has ls 6 [(0, .ref mo), (1, .int (nI how)), (2, .int (nI a1)), (3, .int (nI b1))] := hl
  refine lv_bipush (v := (nI 10)) hx hb dX4_command_0 (by decide) ?_
  refine lv_iload_n hx hb dX4_command_2 rfl (lv_at hl 2 rfl) ?_
  refine n_imul hx hb dX4_command_3 ?_
  refine lv_iload_n hx hb dX4_command_4 rfl (lv_at hl 3 rfl) ?_
  refine n_iadd hx hb dX4_command_5 ?_
  refine lv_istore (lv' := [(4, .int (nI ((10 * a1) + b1))), (0, .ref mo), (1, .int (nI how)), (2, .int (nI a1)), (3, .int (nI b1))]) hx hb dX4_command_6 hl (by decide) rfl (fun ls hl => ?_)
  have L23 : ∀ (is9 : Bool) , (is9 = decide (g.1 0 = nI 1)) → ∀ (H : Heap) (locs : List Loc) (ls : Array Slot), Sep G.1 clA (Fz F s.heap.size) [pts mo (.inr (3, [.int fR, .ref aT, .int (nI zs), .ref aN, .ref aL, .ref aP, .ref aD, .int (nI ac), .ref aK, .ref aZ, .ref aG, .ref aB, .int (nI bl), .int bp, .ref aS, .int (nI tl)])), pts aT (.inl (G.2.1 0, 20, .inl fT)), pts aL (.inl (G.2.1 0, 89, .inl fL)), pts aS (.inl (G.2.1 0, 5, .inl fS)), pts aG (.inl (G.2.1 0, 18, .inl fG)), pts aB (.inl (G.2.1 0, 5, .inl fB)), pts aP (.inl (G.2.1 0, 89, .inl fP))] H → va_S (Fz F s.heap.size) s.heap H locs → lv_has ls 6 [(4, .int (nI ((10 * a1) + b1))), (0, .ref mo), (1, .int (nI how)), (2, .int (nI a1)), (3, .int (nI b1))] → W p l e ({ frames := 6, cells := 0, slots := 0, locals := 159 } : Room) s m args below meth c H locs (0) (0) QQ (F0 m 23 ls [.int (bI is9)]) := by
    intro is9 hp23_0 H locs ls hSep hS hl
    refine lv_istore (lv' := [(5, .int (bI is9)), (4, .int (nI ((10 * a1) + b1))), (0, .ref mo), (1, .int (nI how)), (2, .int (nI a1)), (3, .int (nI b1))]) hx hb dX4_command_23 hl (by decide) rfl (fun ls hl => ?_)
    refine lv_iload_n hx hb dX4_command_25 rfl (lv_at hl 3 rfl) ?_
    by_cases z26_1 : how = 1
    · refine lv_tableIn (off := 50) (tgt := 76) hx hb dX4_command_26 (by rw [z26_1]; decide) (by rw [z26_1]; decide) (by rw [z26_1]; decide) (by decide) ?_
      refine lv_iload hx hb dX4_command_76 (lv_at hl 1 rfl) ?_
      refine n_if_ne (tgt := 107) hx hb (by omega) dX4_command_78 (by decide) (fun c78 => ?_) (fun c78 => ?_)
      · refine lv_iconst (v := (nI 0)) hx hb dX4_command_107 (by decide) ?_
        rw [hQ]
        exact r_z (r := (nI 0)) (u := (fL, bl, bp, tl, fS, fG, fB, fP)) hx hb hr (by decide) (by rw [z26_1, gCmd_1]; first | (rw [if_neg (fun h => c78 h.1)]; exact ⟨rfl, he⟩) | (rw [if_neg (fun h => absurd (h.2.symm.trans c89) (by decide))]; exact ⟨rfl, he⟩) | (rw [if_pos ⟨c78, c89⟩]; exact ⟨rfl, hf8⟩)) hSep hS (by first | exact Nat.le_of_ble_eq_true rfl | omega | (dsimp only; omega)) (by first | exact Nat.le_of_ble_eq_true rfl | omega | (dsimp only; omega)) dX4_command_108 hlocks
      · refine lv_aload_n hx hb dX4_command_81 rfl (lv_at hl 2 rfl) ?_
        refine lv_aload_n hx hb dX4_command_82 rfl (lv_at hl 2 rfl) ?_
        refine va_get (D := G.1) (ci := 3) (v := .ref aL) (C := RX4) (T := TX4) (N := 16) hx hb hts in_X4 hown hK (hSep.cel (k := 0) rfl) 0 rfl rfl 4 (by decide) (hts _ q1477) (fun _ h9 => h9) rfl dX4_command_83 ?_
        obtain ⟨Fk_1, hFk_1, hPk_1, hJk_1⟩ := hSep.cut (Pc := [pts mo (.inr (3, [.int fR, .ref aT, .int (nI zs), .ref aN, .ref aL, .ref aP, .ref aD, .int (nI ac), .ref aK, .ref aZ, .ref aG, .ref aB, .int (nI bl), .int bp, .ref aS, .int (nI tl)])), pts aT (.inl (G.2.1 0, 20, .inl fT)), pts aS (.inl (G.2.1 0, 5, .inl fS)), pts aL (.inl (G.2.1 0, 89, .inl fL))]) (Pr := [pts aG (.inl (G.2.1 0, 18, .inl fG)), pts aB (.inl (G.2.1 0, 5, .inl fB)), pts aP (.inl (G.2.1 0, 89, .inl fP))]) (fun q h => Fz.new (Nat.le_trans hS.1 h)) [0, 1, 3, 2] [4, 5, 6] rfl rfl rfl rfl (by decide)
        refine c_i (va_runV (As := [.ref aL]) (rest := []) ⟨hx, hb, hml, hown, hts⟩ (m_X4_canTellNow l G Fk_1 H.size mo fR aT zs aN aL aP aD ac aK aZ aG aB bl bp aS tl T fT aL fL g fS (by first | assumption | omega) (by first | assumption | omega) (by first | assumption | omega) (by first | assumption | omega) (by first | assumption | omega) (by first | assumption | omega)) (cwV 1 hts (lw_V q1626 q1628 qs25 q44 q1629) rfl rfl rfl (by decide +kernel) ⟨Nat.le_of_ble_eq_true rfl, Nat.le_of_ble_eq_true rfl⟩) (sp_preV hE hS hFk_1 hPk_1 trivial (sp_recv (ci := 3) hK (hSep.cel (k := 0) rfl) rfl)) rfl rfl hl.1 rfl (lv_room (Nat.le_of_ble_eq_true rfl)) dX4_command_86 ⟨by first | exact Nat.le_of_ble_eq_true rfl | omega | (dsimp only; omega), by first | exact Nat.le_of_ble_eq_true rfl | omega | (dsimp only; omega)⟩) hS hFk_1 hJk_1 (fun r_2 u_3 H locs hpk_1 hSep hS hzk_1 => ?_)
        obtain ⟨fS4_4, tl4_5⟩ := u_3
        obtain ⟨rfl, hpk_1⟩ : r_2 = (bI (gCanTellN g T)) ∧ (gCanTellN g T = true → Pre fS4_4 (tW T) ∧ tl4_5 = (tW T).length) := hpk_1
        refine W.cs (cells' := 0) (slots' := 0) rfl rfl ?_
        have hSep : Sep G.1 clA (Fz F s.heap.size) [pts aG (.inl (G.2.1 0, 18, .inl fG)), pts aB (.inl (G.2.1 0, 5, .inl fB)), pts aP (.inl (G.2.1 0, 89, .inl fP)), pts mo (.inr (3, [.int fR, .ref aT, .int (nI zs), .ref aN, .ref aL, .ref aP, .ref aD, .int (nI ac), .ref aK, .ref aZ, .ref aG, .ref aB, .int (nI bl), .int bp, .ref aS, .int (nI tl4_5)])), pts aT (.inl (G.2.1 0, 20, .inl fT)), pts aS (.inl (G.2.1 0, 5, .inl fS4_4)), pts aL (.inl (G.2.1 0, 89, .inl fL))] H := hSep
        have hR := hpk_1
        refine b_if_eq (tgt := 107) hx hb dX4_command_89 (by decide) (fun c89 => ?_) (fun c89 => ?_)
        · refine lv_iconst (v := (nI 0)) hx hb dX4_command_107 (by decide) ?_
          rw [hQ]
          exact r_z (r := (nI 0)) (u := (fL, bl, bp, tl4_5, fS4_4, fG, fB, fP)) hx hb hr (by decide) (by rw [z26_1, gCmd_1]; first | (rw [if_neg (fun h => c78 h.1)]; exact ⟨rfl, he⟩) | (rw [if_neg (fun h => absurd (h.2.symm.trans c89) (by decide))]; exact ⟨rfl, he⟩) | (rw [if_pos ⟨c78, c89⟩]; exact ⟨rfl, hf8⟩)) (hSep.pick [3, 4, 6, 5, 0, 1, 2] rfl rfl) hS (by first | exact Nat.le_of_ble_eq_true rfl | omega | (dsimp only; omega)) (by first | exact Nat.le_of_ble_eq_true rfl | omega | (dsimp only; omega)) dX4_command_108 hlocks
        · refine lv_aload_n hx hb dX4_command_92 rfl (lv_at hl 2 rfl) ?_
          refine lv_aload_n hx hb dX4_command_93 rfl (lv_at hl 2 rfl) ?_
          refine va_get (D := G.1) (ci := 3) (v := .ref aL) (C := RX4) (T := TX4) (N := 16) hx hb hts in_X4 hown hK (hSep.cel (k := 3) rfl) 0 rfl rfl 4 (by decide) (hts _ q1477) (fun _ h9 => h9) rfl dX4_command_94 ?_
          obtain ⟨Fk_6, hFk_6, hPk_6, hJk_6⟩ := hSep.cut (Pc := [pts mo (.inr (3, [.int fR, .ref aT, .int (nI zs), .ref aN, .ref aL, .ref aP, .ref aD, .int (nI ac), .ref aK, .ref aZ, .ref aG, .ref aB, .int (nI bl), .int bp, .ref aS, .int (nI tl4_5)])), pts aS (.inl (G.2.1 0, 5, .inl fS4_4)), pts aL (.inl (G.2.1 0, 89, .inl fL))]) (Pr := [pts aG (.inl (G.2.1 0, 18, .inl fG)), pts aB (.inl (G.2.1 0, 5, .inl fB)), pts aP (.inl (G.2.1 0, 89, .inl fP)), pts aT (.inl (G.2.1 0, 20, .inl fT))]) (fun q h => Fz.new (Nat.le_trans hS.1 h)) [3, 5, 6] [0, 1, 2, 4] rfl rfl rfl rfl (by decide)
          refine c_i (va_runV (As := [.ref aL]) (rest := []) ⟨hx, hb, hml, hown, hts⟩ (m_X4_tellOn l G Fk_6 H.size mo fR aT zs aN aL aP aD ac aK aZ aG aB bl bp aS tl4_5 aL fL g fS4_4 (tW T) (he) (by first | assumption | omega) ((hR c89).1) ((hR c89).2) ((Sent_len (gCanTellN_sent c89)).2) ((gCanTellN_sent c89).2.2)) (cwV 1 hts (lw_V q1637 q1639 qs27 q44 q1640) rfl rfl rfl (by decide +kernel) ⟨Nat.le_of_ble_eq_true rfl, Nat.le_of_ble_eq_true rfl⟩) (sp_preV hE hS hFk_6 hPk_6 trivial (sp_recv (ci := 3) hK (hSep.cel (k := 3) rfl) rfl)) rfl rfl hl.1 rfl (lv_room (Nat.le_of_ble_eq_true rfl)) dX4_command_97 ⟨by first | exact Nat.le_of_ble_eq_true rfl | omega | (dsimp only; omega), by first | exact Nat.le_of_ble_eq_true rfl | omega | (dsimp only; omega)⟩) hS hFk_6 hJk_6 (fun r_7 u_8 H locs hpk_6 hSep hS hzk_6 => ?_)
          obtain ⟨rfl, hpk_6⟩ : r_7 = (nI (gPts g (tW T) 3)) ∧ Enc u_8 (gTell g (tW T)) := hpk_6
          refine W.cs (cells' := 0) (slots' := 0) rfl rfl ?_
          have hSep : Sep G.1 clA (Fz F s.heap.size) [pts aG (.inl (G.2.1 0, 18, .inl fG)), pts aB (.inl (G.2.1 0, 5, .inl fB)), pts aP (.inl (G.2.1 0, 89, .inl fP)), pts aT (.inl (G.2.1 0, 20, .inl fT)), pts mo (.inr (3, [.int fR, .ref aT, .int (nI zs), .ref aN, .ref aL, .ref aP, .ref aD, .int (nI ac), .ref aK, .ref aZ, .ref aG, .ref aB, .int (nI bl), .int bp, .ref aS, .int (nI tl4_5)])), pts aS (.inl (G.2.1 0, 5, .inl fS4_4)), pts aL (.inl (G.2.1 0, 89, .inl u_8))] H := hSep
          have hf8 := hpk_6
          refine n_if_lt (tgt := 107) hx hb (by have := gPts_le g (tW T) 3; have := (Sent_len (gCanTellN_sent c89)).2; omega) dX4_command_100 (by decide) ?_
          refine lv_iconst (v := (nI 1)) hx hb dX4_command_103 (by decide) ?_
          refine lv_goto (tgt := 108) hx hb dX4_command_104 (by decide) ?_
          rw [hQ]
          exact r_z (r := (nI 1)) (u := (u_8, bl, bp, tl4_5, fS4_4, fG, fB, fP)) hx hb hr (by decide) (by rw [z26_1, gCmd_1]; first | (rw [if_neg (fun h => c78 h.1)]; exact ⟨rfl, he⟩) | (rw [if_neg (fun h => absurd (h.2.symm.trans c89) (by decide))]; exact ⟨rfl, he⟩) | (rw [if_pos ⟨c78, c89⟩]; exact ⟨rfl, hf8⟩)) (hSep.pick [4, 3, 6, 5, 0, 1, 2] rfl rfl) hS (by first | exact Nat.le_of_ble_eq_true rfl | omega | (dsimp only; omega)) (by first | exact Nat.le_of_ble_eq_true rfl | omega | (dsimp only; omega)) dX4_command_108 hlocks
    by_cases z26_2 : how = 2
    · refine lv_tableIn (off := 83) (tgt := 109) hx hb dX4_command_26 (by rw [z26_2]; decide) (by rw [z26_2]; decide) (by rw [z26_2]; decide) (by decide) ?_
      refine lv_iload hx hb dX4_command_109 (lv_at hl 1 rfl) ?_
      have hFk_9 : ∀ q, Fz (fun _ => False) H.size q → (Fz F s.heap.size) q := fun q h => by rcases h with h | h; exact h.elim; exact Fz.new (Nat.le_trans hS.1 h)
      have hPk_9 : Sep G.1 clA (Fz (fun _ => False) H.size) [] H := sp_nil
      have hJk_9 := sp_nilJ (F := (fun _ => False)) hSep (fun _ => id) hFk_9
      refine c_i (va_runS (As := [.int (nI ((10 * a1) + b1))]) (rest := []) ⟨hx, hb, hml, hown, hts⟩ (m_X4_isWord l G H.size (nI ((10 * a1) + b1)) ) (va_cwS 1 hts (lw_S q1551 q1552 q44 q1553) rfl rfl rfl (by decide +kernel) ⟨Nat.le_of_ble_eq_true rfl, Nat.le_of_ble_eq_true rfl⟩) (sp_preS hE hS hFk_9 hPk_9 trivial) rfl rfl hl.1 rfl (lv_room (Nat.le_of_ble_eq_true rfl)) dX4_command_111 ⟨by first | exact Nat.le_of_ble_eq_true rfl | omega | (dsimp only; omega), by first | exact Nat.le_of_ble_eq_true rfl | omega | (dsimp only; omega)⟩) hS hFk_9 hJk_9 (fun r_10 u_11 H locs hpk_9 hSep hS hzk_9 => ?_)
      obtain rfl : r_10 = (bI (inR (nI ((10 * a1) + b1)).toInt 0 17)) := hpk_9
      refine W.cs (cells' := 0) (slots' := 0) rfl rfl ?_
      have hSep : Sep G.1 clA (Fz F s.heap.size) [pts mo (.inr (3, [.int fR, .ref aT, .int (nI zs), .ref aN, .ref aL, .ref aP, .ref aD, .int (nI ac), .ref aK, .ref aZ, .ref aG, .ref aB, .int (nI bl), .int bp, .ref aS, .int (nI tl)])), pts aT (.inl (G.2.1 0, 20, .inl fT)), pts aL (.inl (G.2.1 0, 89, .inl fL)), pts aS (.inl (G.2.1 0, 5, .inl fS)), pts aG (.inl (G.2.1 0, 18, .inl fG)), pts aB (.inl (G.2.1 0, 5, .inl fB)), pts aP (.inl (G.2.1 0, 89, .inl fP))] H := hSep
      refine n_eq (y := (bI (decide ((10 * a1 + b1) ≤ 17)))) (congrArg bI (inR_nat (n := 17) (by omega))) ?_
      refine b_if_eq (tgt := 145) hx hb dX4_command_114 (by decide) (fun c114 => ?_) (fun c114 => ?_)
      · refine lv_iconst (v := (nI 0)) hx hb dX4_command_145 (by decide) ?_
        rw [hQ]
        exact r_z (r := (nI 0)) (u := (fL, bl, bp, tl, fS, fG, fB, fP)) hx hb hr (by decide) (by rw [z26_2, gCmd_2]; first | (rw [if_neg (fun h => absurd ((decide_eq_true (show 10 * a1 + b1 ≤ 17 by omega)).symm.trans c114) (by decide))]; exact ⟨rfl, he⟩) | (rw [if_neg (fun h => absurd (h.2.symm.trans c126) (by decide))]; exact ⟨rfl, he⟩) | (rw [if_pos ⟨by have := of_decide_eq_true c114; omega, c126⟩]; exact ⟨rfl, hf8⟩) | (exact absurd c138 (Nat.ne_of_gt (gBan_pos ho _).1))) hSep hS (by first | exact Nat.le_of_ble_eq_true rfl | omega | (dsimp only; omega)) (by first | exact Nat.le_of_ble_eq_true rfl | omega | (dsimp only; omega)) dX4_command_146 hlocks
      · refine lv_aload_n hx hb dX4_command_117 rfl (lv_at hl 2 rfl) ?_
        refine va_get (D := G.1) (ci := 3) (v := .ref aL) (C := RX4) (T := TX4) (N := 16) hx hb hts in_X4 hown hK (hSep.cel (k := 0) rfl) 0 rfl rfl 4 (by decide) (hts _ q1477) (fun _ h9 => h9) rfl dX4_command_118 ?_
        refine lv_iload hx hb dX4_command_121 (lv_at hl 1 rfl) ?_
        have hFk_12 : ∀ q, Fz (fun _ => False) H.size q → (Fz F s.heap.size) q := fun q h => by rcases h with h | h; exact h.elim; exact Fz.new (Nat.le_trans hS.1 h)
        have hPk_12 : Sep G.1 clA (Fz (fun _ => False) H.size) [] H := sp_nil
        have hJk_12 := sp_nilJ (F := (fun _ => False)) hSep (fun _ => id) hFk_12
        refine c_i (va_runS (As := [.ref aL, .int (nI ((10 * a1) + b1))]) (rest := []) ⟨hx, hb, hml, hown, hts⟩ (m_X4_canForbid l G H.size aL fL g ((10 * a1) + b1) (he) (by first | assumption | omega) (by first | assumption | omega)) (va_cwS 2 hts (lw_S q1655 q1656 q44 q1657) rfl rfl rfl (by decide +kernel) ⟨Nat.le_of_ble_eq_true rfl, Nat.le_of_ble_eq_true rfl⟩) (sp_preS hE hS hFk_12 hPk_12 (hSep.cel (k := 2) rfl)) rfl rfl hl.1 rfl (lv_room (Nat.le_of_ble_eq_true rfl)) dX4_command_123 ⟨by first | exact Nat.le_of_ble_eq_true rfl | omega | (dsimp only; omega), by first | exact Nat.le_of_ble_eq_true rfl | omega | (dsimp only; omega)⟩) hS hFk_12 hJk_12 (fun r_13 u_14 H locs hpk_12 hSep hS hzk_12 => ?_)
        obtain rfl : r_13 = (bI (gCan g ((10 * a1) + b1))) := hpk_12
        refine W.cs (cells' := 0) (slots' := 0) rfl rfl ?_
        have hSep : Sep G.1 clA (Fz F s.heap.size) [pts mo (.inr (3, [.int fR, .ref aT, .int (nI zs), .ref aN, .ref aL, .ref aP, .ref aD, .int (nI ac), .ref aK, .ref aZ, .ref aG, .ref aB, .int (nI bl), .int bp, .ref aS, .int (nI tl)])), pts aT (.inl (G.2.1 0, 20, .inl fT)), pts aL (.inl (G.2.1 0, 89, .inl fL)), pts aS (.inl (G.2.1 0, 5, .inl fS)), pts aG (.inl (G.2.1 0, 18, .inl fG)), pts aB (.inl (G.2.1 0, 5, .inl fB)), pts aP (.inl (G.2.1 0, 89, .inl fP))] H := hSep
        refine b_if_eq (tgt := 145) hx hb dX4_command_126 (by decide) (fun c126 => ?_) (fun c126 => ?_)
        · refine lv_iconst (v := (nI 0)) hx hb dX4_command_145 (by decide) ?_
          rw [hQ]
          exact r_z (r := (nI 0)) (u := (fL, bl, bp, tl, fS, fG, fB, fP)) hx hb hr (by decide) (by rw [z26_2, gCmd_2]; first | (rw [if_neg (fun h => absurd ((decide_eq_true (show 10 * a1 + b1 ≤ 17 by omega)).symm.trans c114) (by decide))]; exact ⟨rfl, he⟩) | (rw [if_neg (fun h => absurd (h.2.symm.trans c126) (by decide))]; exact ⟨rfl, he⟩) | (rw [if_pos ⟨by have := of_decide_eq_true c114; omega, c126⟩]; exact ⟨rfl, hf8⟩) | (exact absurd c138 (Nat.ne_of_gt (gBan_pos ho _).1))) hSep hS (by first | exact Nat.le_of_ble_eq_true rfl | omega | (dsimp only; omega)) (by first | exact Nat.le_of_ble_eq_true rfl | omega | (dsimp only; omega)) dX4_command_146 hlocks
        · refine lv_aload_n hx hb dX4_command_129 rfl (lv_at hl 2 rfl) ?_
          refine va_get (D := G.1) (ci := 3) (v := .ref aL) (C := RX4) (T := TX4) (N := 16) hx hb hts in_X4 hown hK (hSep.cel (k := 0) rfl) 0 rfl rfl 4 (by decide) (hts _ q1477) (fun _ h9 => h9) rfl dX4_command_130 ?_
          refine lv_iload hx hb dX4_command_133 (lv_at hl 1 rfl) ?_
          obtain ⟨Fk_15, hFk_15, hPk_15, hJk_15⟩ := hSep.cut (Pc := [pts aL (.inl (G.2.1 0, 89, .inl fL))]) (Pr := [pts mo (.inr (3, [.int fR, .ref aT, .int (nI zs), .ref aN, .ref aL, .ref aP, .ref aD, .int (nI ac), .ref aK, .ref aZ, .ref aG, .ref aB, .int (nI bl), .int bp, .ref aS, .int (nI tl)])), pts aT (.inl (G.2.1 0, 20, .inl fT)), pts aS (.inl (G.2.1 0, 5, .inl fS)), pts aG (.inl (G.2.1 0, 18, .inl fG)), pts aB (.inl (G.2.1 0, 5, .inl fB)), pts aP (.inl (G.2.1 0, 89, .inl fP))]) (fun q h => Fz.new (Nat.le_trans hS.1 h)) [2] [0, 1, 3, 4, 5, 6] rfl rfl rfl rfl (by decide)
          refine c_i (va_runS (As := [.ref aL, .int (nI ((10 * a1) + b1))]) (rest := []) ⟨hx, hb, hml, hown, hts⟩ (m_X4_forbidOn l G Fk_15 H.size aL fL g ((10 * a1) + b1) (he) (by first | assumption | omega) (by have := of_decide_eq_true c114; omega)) (va_cwS 2 hts (lw_S q1658 q1659 q44 q1660) rfl rfl rfl (by decide +kernel) ⟨Nat.le_of_ble_eq_true rfl, Nat.le_of_ble_eq_true rfl⟩) (sp_preS hE hS hFk_15 hPk_15 trivial) rfl rfl hl.1 rfl (lv_room (Nat.le_of_ble_eq_true rfl)) dX4_command_135 ⟨by first | exact Nat.le_of_ble_eq_true rfl | omega | (dsimp only; omega), by first | exact Nat.le_of_ble_eq_true rfl | omega | (dsimp only; omega)⟩) hS hFk_15 hJk_15 (fun r_16 u_17 H locs hpk_15 hSep hS hzk_15 => ?_)
          obtain ⟨rfl, hpk_15⟩ : r_16 = (nI ((gB (gBan g ((10 * a1) + b1)) (1 - gTurn g)).length)) ∧ Enc u_17 (gForbid g ((10 * a1) + b1)) := hpk_15
          refine W.cs (cells' := 0) (slots' := 0) rfl rfl ?_
          have hSep : Sep G.1 clA (Fz F s.heap.size) [pts mo (.inr (3, [.int fR, .ref aT, .int (nI zs), .ref aN, .ref aL, .ref aP, .ref aD, .int (nI ac), .ref aK, .ref aZ, .ref aG, .ref aB, .int (nI bl), .int bp, .ref aS, .int (nI tl)])), pts aT (.inl (G.2.1 0, 20, .inl fT)), pts aS (.inl (G.2.1 0, 5, .inl fS)), pts aG (.inl (G.2.1 0, 18, .inl fG)), pts aB (.inl (G.2.1 0, 5, .inl fB)), pts aP (.inl (G.2.1 0, 89, .inl fP)), pts aL (.inl (G.2.1 0, 89, .inl u_17))] H := hSep
          have hf8 := hpk_15
          refine n_if_le (tgt := 145) hx hb (by have := (gBan_pos ho (10 * a1 + b1)).2; omega) dX4_command_138 (by decide) (fun c138 => ?_) (fun c138 => ?_)
          · refine lv_iconst (v := (nI 0)) hx hb dX4_command_145 (by decide) ?_
            rw [hQ]
            exact r_z (r := (nI 0)) (u := (u_17, bl, bp, tl, fS, fG, fB, fP)) hx hb hr (by decide) (by rw [z26_2, gCmd_2]; first | (rw [if_neg (fun h => absurd ((decide_eq_true (show 10 * a1 + b1 ≤ 17 by omega)).symm.trans c114) (by decide))]; exact ⟨rfl, he⟩) | (rw [if_neg (fun h => absurd (h.2.symm.trans c126) (by decide))]; exact ⟨rfl, he⟩) | (rw [if_pos ⟨by have := of_decide_eq_true c114; omega, c126⟩]; exact ⟨rfl, hf8⟩) | (exact absurd c138 (Nat.ne_of_gt (gBan_pos ho _).1))) (hSep.pick [0, 1, 6, 2, 3, 4, 5] rfl rfl) hS (by first | exact Nat.le_of_ble_eq_true rfl | omega | (dsimp only; omega)) (by first | exact Nat.le_of_ble_eq_true rfl | omega | (dsimp only; omega)) dX4_command_146 hlocks
          · refine lv_iconst (v := (nI 1)) hx hb dX4_command_141 (by decide) ?_
            refine lv_goto (tgt := 146) hx hb dX4_command_142 (by decide) ?_
            rw [hQ]
            exact r_z (r := (nI 1)) (u := (u_17, bl, bp, tl, fS, fG, fB, fP)) hx hb hr (by decide) (by rw [z26_2, gCmd_2]; first | (rw [if_neg (fun h => absurd ((decide_eq_true (show 10 * a1 + b1 ≤ 17 by omega)).symm.trans c114) (by decide))]; exact ⟨rfl, he⟩) | (rw [if_neg (fun h => absurd (h.2.symm.trans c126) (by decide))]; exact ⟨rfl, he⟩) | (rw [if_pos ⟨by have := of_decide_eq_true c114; omega, c126⟩]; exact ⟨rfl, hf8⟩) | (exact absurd c138 (Nat.ne_of_gt (gBan_pos ho _).1))) (hSep.pick [0, 1, 6, 2, 3, 4, 5] rfl rfl) hS (by first | exact Nat.le_of_ble_eq_true rfl | omega | (dsimp only; omega)) (by first | exact Nat.le_of_ble_eq_true rfl | omega | (dsimp only; omega)) dX4_command_146 hlocks
    by_cases z26_3 : how = 3
    · refine lv_tableIn (off := 121) (tgt := 147) hx hb dX4_command_26 (by rw [z26_3]; decide) (by rw [z26_3]; decide) (by rw [z26_3]; decide) (by decide) ?_
      refine lv_iload hx hb dX4_command_147 (lv_at hl 1 rfl) ?_
      refine n_if_ne (tgt := 177) hx hb (by omega) dX4_command_149 (by decide) (fun c149 => ?_) (fun c149 => ?_)
      · refine lv_iconst (v := (nI 0)) hx hb dX4_command_177 (by decide) ?_
        rw [hQ]
        exact r_z (r := (nI 0)) (u := (fL, bl, bp, tl, fS, fG, fB, fP)) hx hb hr (by decide) (by rw [z26_3, gCmd_3]; first | (rw [if_neg (fun h => c149 h.1)]; exact ⟨rfl, he⟩) | (rw [if_neg (fun h => absurd (h.2.symm.trans c159) (by decide))]; exact ⟨rfl, he⟩) | (exact absurd c170 (gNextV_ge (gOk_end ho _))) | (rw [if_pos ⟨c149, c159⟩]; exact ⟨rfl, hf8⟩)) hSep hS (by first | exact Nat.le_of_ble_eq_true rfl | omega | (dsimp only; omega)) (by first | exact Nat.le_of_ble_eq_true rfl | omega | (dsimp only; omega)) dX4_command_178 hlocks
      · refine lv_aload_n hx hb dX4_command_152 rfl (lv_at hl 2 rfl) ?_
        refine va_get (D := G.1) (ci := 3) (v := .ref aL) (C := RX4) (T := TX4) (N := 16) hx hb hts in_X4 hown hK (hSep.cel (k := 0) rfl) 0 rfl rfl 4 (by decide) (hts _ q1477) (fun _ h9 => h9) rfl dX4_command_153 ?_
        have hFk_18 : ∀ q, Fz (fun _ => False) H.size q → (Fz F s.heap.size) q := fun q h => by rcases h with h | h; exact h.elim; exact Fz.new (Nat.le_trans hS.1 h)
        have hPk_18 : Sep G.1 clA (Fz (fun _ => False) H.size) [] H := sp_nil
        have hJk_18 := sp_nilJ (F := (fun _ => False)) hSep (fun _ => id) hFk_18
        refine c_i (va_runS (As := [.ref aL]) (rest := []) ⟨hx, hb, hml, hown, hts⟩ (m_X4_isOn l G H.size aL fL g (he)) (va_cwS 1 hts (lw_S q1630 q1631 q44 q1632) rfl rfl rfl (by decide +kernel) ⟨Nat.le_of_ble_eq_true rfl, Nat.le_of_ble_eq_true rfl⟩) (sp_preS hE hS hFk_18 hPk_18 (hSep.cel (k := 2) rfl)) rfl rfl hl.1 rfl (lv_room (Nat.le_of_ble_eq_true rfl)) dX4_command_156 ⟨by first | exact Nat.le_of_ble_eq_true rfl | omega | (dsimp only; omega), by first | exact Nat.le_of_ble_eq_true rfl | omega | (dsimp only; omega)⟩) hS hFk_18 hJk_18 (fun r_19 u_20 H locs hpk_18 hSep hS hzk_18 => ?_)
        obtain rfl : r_19 = (bI (gOn g)) := hpk_18
        refine W.cs (cells' := 0) (slots' := 0) rfl rfl ?_
        have hSep : Sep G.1 clA (Fz F s.heap.size) [pts mo (.inr (3, [.int fR, .ref aT, .int (nI zs), .ref aN, .ref aL, .ref aP, .ref aD, .int (nI ac), .ref aK, .ref aZ, .ref aG, .ref aB, .int (nI bl), .int bp, .ref aS, .int (nI tl)])), pts aT (.inl (G.2.1 0, 20, .inl fT)), pts aL (.inl (G.2.1 0, 89, .inl fL)), pts aS (.inl (G.2.1 0, 5, .inl fS)), pts aG (.inl (G.2.1 0, 18, .inl fG)), pts aB (.inl (G.2.1 0, 5, .inl fB)), pts aP (.inl (G.2.1 0, 89, .inl fP))] H := hSep
        refine b_if_eq (tgt := 177) hx hb dX4_command_159 (by decide) (fun c159 => ?_) (fun c159 => ?_)
        · refine lv_iconst (v := (nI 0)) hx hb dX4_command_177 (by decide) ?_
          rw [hQ]
          exact r_z (r := (nI 0)) (u := (fL, bl, bp, tl, fS, fG, fB, fP)) hx hb hr (by decide) (by rw [z26_3, gCmd_3]; first | (rw [if_neg (fun h => c149 h.1)]; exact ⟨rfl, he⟩) | (rw [if_neg (fun h => absurd (h.2.symm.trans c159) (by decide))]; exact ⟨rfl, he⟩) | (exact absurd c170 (gNextV_ge (gOk_end ho _))) | (rw [if_pos ⟨c149, c159⟩]; exact ⟨rfl, hf8⟩)) hSep hS (by first | exact Nat.le_of_ble_eq_true rfl | omega | (dsimp only; omega)) (by first | exact Nat.le_of_ble_eq_true rfl | omega | (dsimp only; omega)) dX4_command_178 hlocks
        · refine lv_aload_n hx hb dX4_command_162 rfl (lv_at hl 2 rfl) ?_
          refine va_get (D := G.1) (ci := 3) (v := .ref aL) (C := RX4) (T := TX4) (N := 16) hx hb hts in_X4 hown hK (hSep.cel (k := 0) rfl) 0 rfl rfl 4 (by decide) (hts _ q1477) (fun _ h9 => h9) rfl dX4_command_163 ?_
          obtain ⟨Fk_21, hFk_21, hPk_21, hJk_21⟩ := hSep.cut (Pc := [pts aL (.inl (G.2.1 0, 89, .inl fL))]) (Pr := [pts mo (.inr (3, [.int fR, .ref aT, .int (nI zs), .ref aN, .ref aL, .ref aP, .ref aD, .int (nI ac), .ref aK, .ref aZ, .ref aG, .ref aB, .int (nI bl), .int bp, .ref aS, .int (nI tl)])), pts aT (.inl (G.2.1 0, 20, .inl fT)), pts aS (.inl (G.2.1 0, 5, .inl fS)), pts aG (.inl (G.2.1 0, 18, .inl fG)), pts aB (.inl (G.2.1 0, 5, .inl fB)), pts aP (.inl (G.2.1 0, 89, .inl fP))]) (fun q h => Fz.new (Nat.le_trans hS.1 h)) [2] [0, 1, 3, 4, 5, 6] rfl rfl rfl rfl (by decide)
          refine c_i (va_runS (As := [.ref aL]) (rest := []) ⟨hx, hb, hml, hown, hts⟩ (m_X4_doneOn l G Fk_21 H.size aL fL g (he) (by first | assumption | omega)) (va_cwS 1 hts (lw_S q1671 q1672 q44 q1673) rfl rfl rfl (by decide +kernel) ⟨Nat.le_of_ble_eq_true rfl, Nat.le_of_ble_eq_true rfl⟩) (sp_preS hE hS hFk_21 hPk_21 trivial) rfl rfl hl.1 rfl (lv_room (Nat.le_of_ble_eq_true rfl)) dX4_command_166 ⟨by first | exact Nat.le_of_ble_eq_true rfl | omega | (dsimp only; omega), by first | exact Nat.le_of_ble_eq_true rfl | omega | (dsimp only; omega)⟩) hS hFk_21 hJk_21 (fun r_22 u_23 H locs hpk_21 hSep hS hzk_21 => ?_)
          obtain ⟨rfl, hpk_21⟩ : r_22 = (gNextV (gDone g)) ∧ Enc u_23 (gDone g) := hpk_21
          refine W.cs (cells' := 0) (slots' := 0) rfl rfl ?_
          have hSep : Sep G.1 clA (Fz F s.heap.size) [pts mo (.inr (3, [.int fR, .ref aT, .int (nI zs), .ref aN, .ref aL, .ref aP, .ref aD, .int (nI ac), .ref aK, .ref aZ, .ref aG, .ref aB, .int (nI bl), .int bp, .ref aS, .int (nI tl)])), pts aT (.inl (G.2.1 0, 20, .inl fT)), pts aS (.inl (G.2.1 0, 5, .inl fS)), pts aG (.inl (G.2.1 0, 18, .inl fG)), pts aB (.inl (G.2.1 0, 5, .inl fB)), pts aP (.inl (G.2.1 0, 89, .inl fP)), pts aL (.inl (G.2.1 0, 89, .inl u_23))] H := hSep
          have hf8 := hpk_21
          refine lv_iconst (v := (-1)) hx hb dX4_command_169 (by decide) ?_
          refine lv_icmp_lt (tgt := 177) hx hb dX4_command_170 (by decide) (fun c170 => ?_) (fun c170 => ?_)
          · refine lv_iconst (v := (nI 0)) hx hb dX4_command_177 (by decide) ?_
            rw [hQ]
            exact r_z (r := (nI 0)) (u := (u_23, bl, bp, tl, fS, fG, fB, fP)) hx hb hr (by decide) (by rw [z26_3, gCmd_3]; first | (rw [if_neg (fun h => c149 h.1)]; exact ⟨rfl, he⟩) | (rw [if_neg (fun h => absurd (h.2.symm.trans c159) (by decide))]; exact ⟨rfl, he⟩) | (exact absurd c170 (gNextV_ge (gOk_end ho _))) | (rw [if_pos ⟨c149, c159⟩]; exact ⟨rfl, hf8⟩)) (hSep.pick [0, 1, 6, 2, 3, 4, 5] rfl rfl) hS (by first | exact Nat.le_of_ble_eq_true rfl | omega | (dsimp only; omega)) (by first | exact Nat.le_of_ble_eq_true rfl | omega | (dsimp only; omega)) dX4_command_178 hlocks
          · refine lv_iconst (v := (nI 1)) hx hb dX4_command_173 (by decide) ?_
            refine lv_goto (tgt := 178) hx hb dX4_command_174 (by decide) ?_
            rw [hQ]
            exact r_z (r := (nI 1)) (u := (u_23, bl, bp, tl, fS, fG, fB, fP)) hx hb hr (by decide) (by rw [z26_3, gCmd_3]; first | (rw [if_neg (fun h => c149 h.1)]; exact ⟨rfl, he⟩) | (rw [if_neg (fun h => absurd (h.2.symm.trans c159) (by decide))]; exact ⟨rfl, he⟩) | (exact absurd c170 (gNextV_ge (gOk_end ho _))) | (rw [if_pos ⟨c149, c159⟩]; exact ⟨rfl, hf8⟩)) (hSep.pick [0, 1, 6, 2, 3, 4, 5] rfl rfl) hS (by first | exact Nat.le_of_ble_eq_true rfl | omega | (dsimp only; omega)) (by first | exact Nat.le_of_ble_eq_true rfl | omega | (dsimp only; omega)) dX4_command_178 hlocks
    by_cases z26_4 : how = 4
    · refine lv_tableIn (off := 153) (tgt := 179) hx hb dX4_command_26 (by rw [z26_4]; decide) (by rw [z26_4]; decide) (by rw [z26_4]; decide) (by decide) ?_
      refine lv_iload hx hb dX4_command_179 (lv_at hl 1 rfl) ?_
      refine n_if_ne (tgt := 210) hx hb (by omega) dX4_command_181 (by decide) (fun c181 => ?_) (fun c181 => ?_)
      · refine lv_iconst (v := (nI 0)) hx hb dX4_command_210 (by decide) ?_
        rw [hQ]
        exact r_z (r := (nI 0)) (u := (fL, bl, bp, tl, fS, fG, fB, fP)) hx hb hr (by decide) (by rw [z26_4, gCmd_4]; first | (rw [if_neg (fun h => c181 h.1)]; exact ⟨rfl, he⟩) | (rw [if_neg (fun h => absurd (h.2.symm.trans c191) (by decide))]; exact ⟨rfl, he⟩) | (exact absurd c203 hf8.2) | (rw [if_pos ⟨c181, c191⟩]; exact ⟨rfl, hf8.1⟩)) hSep hS (by first | exact Nat.le_of_ble_eq_true rfl | omega | (dsimp only; omega)) (by first | exact Nat.le_of_ble_eq_true rfl | omega | (dsimp only; omega)) dX4_command_211 hlocks
      · refine lv_aload_n hx hb dX4_command_184 rfl (lv_at hl 2 rfl) ?_
        refine va_get (D := G.1) (ci := 3) (v := .ref aL) (C := RX4) (T := TX4) (N := 16) hx hb hts in_X4 hown hK (hSep.cel (k := 0) rfl) 0 rfl rfl 4 (by decide) (hts _ q1477) (fun _ h9 => h9) rfl dX4_command_185 ?_
        have hFk_24 : ∀ q, Fz (fun _ => False) H.size q → (Fz F s.heap.size) q := fun q h => by rcases h with h | h; exact h.elim; exact Fz.new (Nat.le_trans hS.1 h)
        have hPk_24 : Sep G.1 clA (Fz (fun _ => False) H.size) [] H := sp_nil
        have hJk_24 := sp_nilJ (F := (fun _ => False)) hSep (fun _ => id) hFk_24
        refine c_i (va_runS (As := [.ref aL]) (rest := []) ⟨hx, hb, hml, hown, hts⟩ (m_X4_isOn l G H.size aL fL g (he)) (va_cwS 1 hts (lw_S q1630 q1631 q44 q1632) rfl rfl rfl (by decide +kernel) ⟨Nat.le_of_ble_eq_true rfl, Nat.le_of_ble_eq_true rfl⟩) (sp_preS hE hS hFk_24 hPk_24 (hSep.cel (k := 2) rfl)) rfl rfl hl.1 rfl (lv_room (Nat.le_of_ble_eq_true rfl)) dX4_command_188 ⟨by first | exact Nat.le_of_ble_eq_true rfl | omega | (dsimp only; omega), by first | exact Nat.le_of_ble_eq_true rfl | omega | (dsimp only; omega)⟩) hS hFk_24 hJk_24 (fun r_25 u_26 H locs hpk_24 hSep hS hzk_24 => ?_)
        obtain rfl : r_25 = (bI (gOn g)) := hpk_24
        refine W.cs (cells' := 0) (slots' := 0) rfl rfl ?_
        have hSep : Sep G.1 clA (Fz F s.heap.size) [pts mo (.inr (3, [.int fR, .ref aT, .int (nI zs), .ref aN, .ref aL, .ref aP, .ref aD, .int (nI ac), .ref aK, .ref aZ, .ref aG, .ref aB, .int (nI bl), .int bp, .ref aS, .int (nI tl)])), pts aT (.inl (G.2.1 0, 20, .inl fT)), pts aL (.inl (G.2.1 0, 89, .inl fL)), pts aS (.inl (G.2.1 0, 5, .inl fS)), pts aG (.inl (G.2.1 0, 18, .inl fG)), pts aB (.inl (G.2.1 0, 5, .inl fB)), pts aP (.inl (G.2.1 0, 89, .inl fP))] H := hSep
        refine b_if_eq (tgt := 210) hx hb dX4_command_191 (by decide) (fun c191 => ?_) (fun c191 => ?_)
        · refine lv_iconst (v := (nI 0)) hx hb dX4_command_210 (by decide) ?_
          rw [hQ]
          exact r_z (r := (nI 0)) (u := (fL, bl, bp, tl, fS, fG, fB, fP)) hx hb hr (by decide) (by rw [z26_4, gCmd_4]; first | (rw [if_neg (fun h => c181 h.1)]; exact ⟨rfl, he⟩) | (rw [if_neg (fun h => absurd (h.2.symm.trans c191) (by decide))]; exact ⟨rfl, he⟩) | (exact absurd c203 hf8.2) | (rw [if_pos ⟨c181, c191⟩]; exact ⟨rfl, hf8.1⟩)) hSep hS (by first | exact Nat.le_of_ble_eq_true rfl | omega | (dsimp only; omega)) (by first | exact Nat.le_of_ble_eq_true rfl | omega | (dsimp only; omega)) dX4_command_211 hlocks
        · refine lv_aload_n hx hb dX4_command_194 rfl (lv_at hl 2 rfl) ?_
          refine lv_aload_n hx hb dX4_command_195 rfl (lv_at hl 2 rfl) ?_
          refine va_get (D := G.1) (ci := 3) (v := .ref aL) (C := RX4) (T := TX4) (N := 16) hx hb hts in_X4 hown hK (hSep.cel (k := 0) rfl) 0 rfl rfl 4 (by decide) (hts _ q1477) (fun _ h9 => h9) rfl dX4_command_196 ?_
          obtain ⟨Fk_27, hFk_27, hPk_27, hJk_27⟩ := hSep.cut (Pc := [pts mo (.inr (3, [.int fR, .ref aT, .int (nI zs), .ref aN, .ref aL, .ref aP, .ref aD, .int (nI ac), .ref aK, .ref aZ, .ref aG, .ref aB, .int (nI bl), .int bp, .ref aS, .int (nI tl)])), pts aL (.inl (G.2.1 0, 89, .inl fL)), pts aS (.inl (G.2.1 0, 5, .inl fS)), pts aG (.inl (G.2.1 0, 18, .inl fG)), pts aB (.inl (G.2.1 0, 5, .inl fB)), pts aP (.inl (G.2.1 0, 89, .inl fP))]) (Pr := [pts aT (.inl (G.2.1 0, 20, .inl fT))]) (fun q h => Fz.new (Nat.le_trans hS.1 h)) [0, 2, 3, 4, 5, 6] [1] rfl rfl rfl rfl (by decide)
          refine c_i (va_runV (As := [.ref aL]) (rest := []) ⟨hx, hb, hml, hown, hts⟩ (m_X4_playOn l G Fk_27 H.size mo fR aT zs aN aL aP aD ac aK aZ aG aB bl bp aS tl aL fL g fS fG fB fP (he) (by first | assumption | omega)) (cwV 1 hts (lw_V q1678 q1680 qs29 q44 q1681) rfl rfl rfl (by decide +kernel) ⟨Nat.le_of_ble_eq_true rfl, Nat.le_of_ble_eq_true rfl⟩) (sp_preV hE hS hFk_27 hPk_27 trivial (sp_recv (ci := 3) hK (hSep.cel (k := 0) rfl) rfl)) rfl rfl hl.1 rfl (lv_room (Nat.le_of_ble_eq_true rfl)) dX4_command_199 ⟨by first | exact Nat.le_of_ble_eq_true rfl | omega | (dsimp only; omega), by first | exact Nat.le_of_ble_eq_true rfl | omega | (dsimp only; omega)⟩) hS hFk_27 hJk_27 (fun r_28 u_29 H locs hpk_27 hSep hS hzk_27 => ?_)
          obtain ⟨f5_30, bl4_31, bp4_32, tl4_33, fS4_34, fG4_35, fB4_36, fP4_37⟩ := u_29
          obtain ⟨rfl, hpk_27⟩ : r_28 = ((gPlay g).2) ∧ Enc f5_30 (gPlay g).1 ∧ ¬ (gPlay g).2 < -1 := hpk_27
          refine W.cs (cells' := 0) (slots' := 0) rfl rfl ?_
          have hSep : Sep G.1 clA (Fz F s.heap.size) [pts aT (.inl (G.2.1 0, 20, .inl fT)), pts mo (.inr (3, [.int fR, .ref aT, .int (nI zs), .ref aN, .ref aL, .ref aP, .ref aD, .int (nI ac), .ref aK, .ref aZ, .ref aG, .ref aB, .int (nI bl4_31), .int bp4_32, .ref aS, .int (nI tl4_33)])), pts aL (.inl (G.2.1 0, 89, .inl f5_30)), pts aS (.inl (G.2.1 0, 5, .inl fS4_34)), pts aG (.inl (G.2.1 0, 18, .inl fG4_35)), pts aB (.inl (G.2.1 0, 5, .inl fB4_36)), pts aP (.inl (G.2.1 0, 89, .inl fP4_37))] H := hSep
          have hf8 := hpk_27
          refine lv_iconst (v := (-1)) hx hb dX4_command_202 (by decide) ?_
          refine lv_icmp_lt (tgt := 210) hx hb dX4_command_203 (by decide) (fun c203 => ?_) (fun c203 => ?_)
          · refine lv_iconst (v := (nI 0)) hx hb dX4_command_210 (by decide) ?_
            rw [hQ]
            exact r_z (r := (nI 0)) (u := (f5_30, bl4_31, bp4_32, tl4_33, fS4_34, fG4_35, fB4_36, fP4_37)) hx hb hr (by decide) (by rw [z26_4, gCmd_4]; first | (rw [if_neg (fun h => c181 h.1)]; exact ⟨rfl, he⟩) | (rw [if_neg (fun h => absurd (h.2.symm.trans c191) (by decide))]; exact ⟨rfl, he⟩) | (exact absurd c203 hf8.2) | (rw [if_pos ⟨c181, c191⟩]; exact ⟨rfl, hf8.1⟩)) (hSep.pick [1, 0, 2, 3, 4, 5, 6] rfl rfl) hS (by first | exact Nat.le_of_ble_eq_true rfl | omega | (dsimp only; omega)) (by first | exact Nat.le_of_ble_eq_true rfl | omega | (dsimp only; omega)) dX4_command_211 hlocks
          · refine lv_iconst (v := (nI 1)) hx hb dX4_command_206 (by decide) ?_
            refine lv_goto (tgt := 211) hx hb dX4_command_207 (by decide) ?_
            rw [hQ]
            exact r_z (r := (nI 1)) (u := (f5_30, bl4_31, bp4_32, tl4_33, fS4_34, fG4_35, fB4_36, fP4_37)) hx hb hr (by decide) (by rw [z26_4, gCmd_4]; first | (rw [if_neg (fun h => c181 h.1)]; exact ⟨rfl, he⟩) | (rw [if_neg (fun h => absurd (h.2.symm.trans c191) (by decide))]; exact ⟨rfl, he⟩) | (exact absurd c203 hf8.2) | (rw [if_pos ⟨c181, c191⟩]; exact ⟨rfl, hf8.1⟩)) (hSep.pick [1, 0, 2, 3, 4, 5, 6] rfl rfl) hS (by first | exact Nat.le_of_ble_eq_true rfl | omega | (dsimp only; omega)) (by first | exact Nat.le_of_ble_eq_true rfl | omega | (dsimp only; omega)) dX4_command_211 hlocks
    by_cases z26_5 : how = 5
    · refine lv_tableIn (off := 186) (tgt := 212) hx hb dX4_command_26 (by rw [z26_5]; decide) (by rw [z26_5]; decide) (by rw [z26_5]; decide) (by decide) ?_
      refine lv_iload_n hx hb dX4_command_212 rfl (lv_at hl 4 rfl) ?_
      refine n_if_gt (tgt := 224) hx hb (by omega) dX4_command_213 (by decide) (fun c213 => ?_) (fun c213 => ?_)
      · refine lv_iconst (v := (nI 0)) hx hb dX4_command_224 (by decide) ?_
        rw [hQ]
        exact r_z (r := (nI 0)) (u := (fL, bl, bp, tl, fS, fG, fB, fP)) hx hb hr (by decide) (by rw [z26_5, gCmd_5]; first | (rw [if_neg (fun h => absurd h.1 (Nat.ne_of_gt c213))]; exact ⟨rfl, he⟩) | (rw [if_neg (fun h => absurd (h.2.symm.trans c221) (by decide))]; exact ⟨rfl, he⟩)) hSep hS (by first | exact Nat.le_of_ble_eq_true rfl | omega | (dsimp only; omega)) (by first | exact Nat.le_of_ble_eq_true rfl | omega | (dsimp only; omega)) dX4_command_225 hlocks
      · refine lv_iconst (v := (nI 0)) hx hb dX4_command_216 (by decide) ?_
        refine lv_iload_n hx hb dX4_command_217 rfl (lv_at hl 5 rfl) ?_
        have hFk_38 : ∀ q, Fz (fun _ => False) H.size q → (Fz F s.heap.size) q := fun q h => by rcases h with h | h; exact h.elim; exact Fz.new (Nat.le_trans hS.1 h)
        have hPk_38 : Sep G.1 clA (Fz (fun _ => False) H.size) [] H := sp_nil
        have hJk_38 := sp_nilJ (F := (fun _ => False)) hSep (fun _ => id) hFk_38
        refine c_i (va_runS (As := [.int (nI 0), .int (nI b1)]) (rest := []) ⟨hx, hb, hml, hown, hts⟩ (m_X4_isSetting l G H.size (nI 0) (nI b1) ) (va_cwS 2 hts (lw_S q1710 q1711 q44 q1712) rfl rfl rfl (by decide +kernel) ⟨Nat.le_of_ble_eq_true rfl, Nat.le_of_ble_eq_true rfl⟩) (sp_preS hE hS hFk_38 hPk_38 trivial) rfl rfl hl.1 rfl (lv_room (Nat.le_of_ble_eq_true rfl)) dX4_command_218 ⟨by first | exact Nat.le_of_ble_eq_true rfl | omega | (dsimp only; omega), by first | exact Nat.le_of_ble_eq_true rfl | omega | (dsimp only; omega)⟩) hS hFk_38 hJk_38 (fun r_39 u_40 H locs hpk_38 hSep hS hzk_38 => ?_)
        obtain rfl : r_39 = (bI (setOk (nI 0) (nI b1))) := hpk_38
        refine W.cs (cells' := 0) (slots' := 0) rfl rfl ?_
        have hSep : Sep G.1 clA (Fz F s.heap.size) [pts mo (.inr (3, [.int fR, .ref aT, .int (nI zs), .ref aN, .ref aL, .ref aP, .ref aD, .int (nI ac), .ref aK, .ref aZ, .ref aG, .ref aB, .int (nI bl), .int bp, .ref aS, .int (nI tl)])), pts aT (.inl (G.2.1 0, 20, .inl fT)), pts aL (.inl (G.2.1 0, 89, .inl fL)), pts aS (.inl (G.2.1 0, 5, .inl fS)), pts aG (.inl (G.2.1 0, 18, .inl fG)), pts aB (.inl (G.2.1 0, 5, .inl fB)), pts aP (.inl (G.2.1 0, 89, .inl fP))] H := hSep
        refine b_if_ne (tgt := 226) hx hb dX4_command_221 (by decide) (fun c221 => ?_) (fun c221 => ?_)
        · refine lv_aload_n hx hb dX4_command_226 rfl (lv_at hl 2 rfl) ?_
          refine va_get (D := G.1) (ci := 3) (v := .ref aL) (C := RX4) (T := TX4) (N := 16) hx hb hts in_X4 hown hK (hSep.cel (k := 0) rfl) 0 rfl rfl 4 (by decide) (hts _ q1477) (fun _ h9 => h9) rfl dX4_command_227 ?_
          refine lv_bipush (v := (nI 7)) hx hb dX4_command_230 (by decide) ?_
          refine lv_iload_n hx hb dX4_command_232 rfl (lv_at hl 5 rfl) ?_
          refine n_iast (i := 7) (x := (nI b1)) (y := (nI b1)) hx hb hK hSep hS 2 rfl 0 rfl (by omega) (by omega) (rfl) dX4_command_233 (fun H locs hSep hS => ?_)
          have hSep : Sep G.1 clA (Fz F s.heap.size) [pts mo (.inr (3, [.int fR, .ref aT, .int (nI zs), .ref aN, .ref aL, .ref aP, .ref aD, .int (nI ac), .ref aK, .ref aZ, .ref aG, .ref aB, .int (nI bl), .int bp, .ref aS, .int (nI tl)])), pts aT (.inl (G.2.1 0, 20, .inl fT)), pts aL (.inl (G.2.1 0, 89, .inl (upd fL 7 (nI b1)))), pts aS (.inl (G.2.1 0, 5, .inl fS)), pts aG (.inl (G.2.1 0, 18, .inl fG)), pts aB (.inl (G.2.1 0, 5, .inl fB)), pts aP (.inl (G.2.1 0, 89, .inl fP))] H := hSep
          refine lv_iconst (v := (nI 1)) hx hb dX4_command_234 (by decide) ?_
          rw [hQ]
          exact r_z (r := (nI 1)) (u := (upd fL 7 (nI b1), bl, bp, tl, fS, fG, fB, fP)) hx hb hr (by decide) (by rw [z26_5, gCmd_5]; first | (rw [if_pos ⟨c213, c221⟩]; exact ⟨rfl, he.setn _ (by decide)⟩)) hSep hS (by first | exact Nat.le_of_ble_eq_true rfl | omega | (dsimp only; omega)) (by first | exact Nat.le_of_ble_eq_true rfl | omega | (dsimp only; omega)) dX4_command_235 hlocks
        · refine lv_iconst (v := (nI 0)) hx hb dX4_command_224 (by decide) ?_
          rw [hQ]
          exact r_z (r := (nI 0)) (u := (fL, bl, bp, tl, fS, fG, fB, fP)) hx hb hr (by decide) (by rw [z26_5, gCmd_5]; first | (rw [if_neg (fun h => absurd h.1 (Nat.ne_of_gt c213))]; exact ⟨rfl, he⟩) | (rw [if_neg (fun h => absurd (h.2.symm.trans c221) (by decide))]; exact ⟨rfl, he⟩)) hSep hS (by first | exact Nat.le_of_ble_eq_true rfl | omega | (dsimp only; omega)) (by first | exact Nat.le_of_ble_eq_true rfl | omega | (dsimp only; omega)) dX4_command_225 hlocks
    by_cases z26_6 : how = 6
    · refine lv_tableIn (off := 210) (tgt := 236) hx hb dX4_command_26 (by rw [z26_6]; decide) (by rw [z26_6]; decide) (by rw [z26_6]; decide) (by decide) ?_
      refine lv_iload_n hx hb dX4_command_236 rfl (lv_at hl 4 rfl) ?_
      have hFk_41 : ∀ q, Fz (fun _ => False) H.size q → (Fz F s.heap.size) q := fun q h => by rcases h with h | h; exact h.elim; exact Fz.new (Nat.le_trans hS.1 h)
      have hPk_41 : Sep G.1 clA (Fz (fun _ => False) H.size) [] H := sp_nil
      have hJk_41 := sp_nilJ (F := (fun _ => False)) hSep (fun _ => id) hFk_41
      refine c_i (va_runS (As := [.int (nI a1)]) (rest := []) ⟨hx, hb, hml, hown, hts⟩ (m_X4_isTeller l G H.size (nI a1) ) (va_cwS 1 hts (lw_S q1577 q1578 q44 q1579) rfl rfl rfl (by decide +kernel) ⟨Nat.le_of_ble_eq_true rfl, Nat.le_of_ble_eq_true rfl⟩) (sp_preS hE hS hFk_41 hPk_41 trivial) rfl rfl hl.1 rfl (lv_room (Nat.le_of_ble_eq_true rfl)) dX4_command_237 ⟨by first | exact Nat.le_of_ble_eq_true rfl | omega | (dsimp only; omega), by first | exact Nat.le_of_ble_eq_true rfl | omega | (dsimp only; omega)⟩) hS hFk_41 hJk_41 (fun r_42 u_43 H locs hpk_41 hSep hS hzk_41 => ?_)
      obtain rfl : r_42 = (bI (inR (nI a1).toInt 0 1)) := hpk_41
      refine W.cs (cells' := 0) (slots' := 0) rfl rfl ?_
      have hSep : Sep G.1 clA (Fz F s.heap.size) [pts mo (.inr (3, [.int fR, .ref aT, .int (nI zs), .ref aN, .ref aL, .ref aP, .ref aD, .int (nI ac), .ref aK, .ref aZ, .ref aG, .ref aB, .int (nI bl), .int bp, .ref aS, .int (nI tl)])), pts aT (.inl (G.2.1 0, 20, .inl fT)), pts aL (.inl (G.2.1 0, 89, .inl fL)), pts aS (.inl (G.2.1 0, 5, .inl fS)), pts aG (.inl (G.2.1 0, 18, .inl fG)), pts aB (.inl (G.2.1 0, 5, .inl fB)), pts aP (.inl (G.2.1 0, 89, .inl fP))] H := hSep
      refine n_eq (y := (bI (decide (a1 ≤ 1)))) (congrArg bI (inR_nat (n := 1) (by omega))) ?_
      refine b_if_eq (tgt := 262) hx hb dX4_command_240 (by decide) (fun c240 => ?_) (fun c240 => ?_)
      · refine lv_iconst (v := (nI 0)) hx hb dX4_command_262 (by decide) ?_
        rw [hQ]
        exact r_z (r := (nI 0)) (u := (fL, bl, bp, tl, fS, fG, fB, fP)) hx hb hr (by decide) (by rw [z26_6, gCmd_6]; first | (exact ⟨(bI_df (fun h => absurd (h.1) (by have := of_decide_eq_false c240; omega))).symm, he⟩) | (exact ⟨(bI_df (fun h => absurd h.2 (Int32.not_le.mpr c255))).symm, he⟩) | (exact ⟨(bI_dt ⟨by have := of_decide_eq_true c240; omega, Int32.not_lt.mp c255⟩).symm, he⟩)) hSep hS (by first | exact Nat.le_of_ble_eq_true rfl | omega | (dsimp only; omega)) (by first | exact Nat.le_of_ble_eq_true rfl | omega | (dsimp only; omega)) dX4_command_263 hlocks
      · refine lv_aload_n hx hb dX4_command_243 rfl (lv_at hl 2 rfl) ?_
        refine va_get (D := G.1) (ci := 3) (v := .ref aL) (C := RX4) (T := TX4) (N := 16) hx hb hts in_X4 hown hK (hSep.cel (k := 0) rfl) 0 rfl rfl 4 (by decide) (hts _ q1477) (fun _ h9 => h9) rfl dX4_command_244 ?_
        refine lv_iload_n hx hb dX4_command_247 rfl (lv_at hl 4 rfl) ?_
        have hFk_44 : ∀ q, Fz (fun _ => False) H.size q → (Fz F s.heap.size) q := fun q h => by rcases h with h | h; exact h.elim; exact Fz.new (Nat.le_trans hS.1 h)
        have hPk_44 : Sep G.1 clA (Fz (fun _ => False) H.size) [] H := sp_nil
        have hJk_44 := sp_nilJ (F := (fun _ => False)) hSep (fun _ => id) hFk_44
        refine c_i (va_runS (As := [.int (nI a1)]) (rest := [.ref aL]) ⟨hx, hb, hml, hown, hts⟩ (m_X4_at l G H.size a1 ) (va_cwS 1 hts (lw_S q1584 q1585 q44 q1586) rfl rfl rfl (by decide +kernel) ⟨Nat.le_of_ble_eq_true rfl, Nat.le_of_ble_eq_true rfl⟩) (sp_preS hE hS hFk_44 hPk_44 trivial) rfl rfl hl.1 rfl (lv_room (Nat.le_of_ble_eq_true rfl)) dX4_command_248 ⟨by first | exact Nat.le_of_ble_eq_true rfl | omega | (dsimp only; omega), by first | exact Nat.le_of_ble_eq_true rfl | omega | (dsimp only; omega)⟩) hS hFk_44 hJk_44 (fun r_45 u_46 H locs hpk_44 hSep hS hzk_44 => ?_)
        obtain rfl : r_45 = (nI (23 + 15 * a1)) := hpk_44
        refine W.cs (cells' := 0) (slots' := 0) rfl rfl ?_
        have hSep : Sep G.1 clA (Fz F s.heap.size) [pts mo (.inr (3, [.int fR, .ref aT, .int (nI zs), .ref aN, .ref aL, .ref aP, .ref aD, .int (nI ac), .ref aK, .ref aZ, .ref aG, .ref aB, .int (nI bl), .int bp, .ref aS, .int (nI tl)])), pts aT (.inl (G.2.1 0, 20, .inl fT)), pts aL (.inl (G.2.1 0, 89, .inl fL)), pts aS (.inl (G.2.1 0, 5, .inl fS)), pts aG (.inl (G.2.1 0, 18, .inl fG)), pts aB (.inl (G.2.1 0, 5, .inl fB)), pts aP (.inl (G.2.1 0, 89, .inl fP))] H := hSep
        refine lv_iconst (v := (nI 0)) hx hb dX4_command_251 (by decide) ?_
        refine n_iadd hx hb dX4_command_252 ?_
        refine n_iald (i := (23 + 15 * a1) + 0) hx hb hK (hSep.cel (k := 2) rfl) 0 rfl (by have := of_decide_eq_true c240; omega) (by have := of_decide_eq_true c240; omega) dX4_command_253 ?_
        refine n_eq (y := (g.1 (23 + 15 * a1))) (he.sc (by have := of_decide_eq_true c240; omega) (by omega)) ?_
        refine lv_iload_n hx hb dX4_command_254 rfl (lv_at hl 5 rfl) ?_
        refine lv_icmp_lt (tgt := 262) hx hb dX4_command_255 (by decide) (fun c255 => ?_) (fun c255 => ?_)
        · refine lv_iconst (v := (nI 0)) hx hb dX4_command_262 (by decide) ?_
          rw [hQ]
          exact r_z (r := (nI 0)) (u := (fL, bl, bp, tl, fS, fG, fB, fP)) hx hb hr (by decide) (by rw [z26_6, gCmd_6]; first | (exact ⟨(bI_df (fun h => absurd (h.1) (by have := of_decide_eq_false c240; omega))).symm, he⟩) | (exact ⟨(bI_df (fun h => absurd h.2 (Int32.not_le.mpr c255))).symm, he⟩) | (exact ⟨(bI_dt ⟨by have := of_decide_eq_true c240; omega, Int32.not_lt.mp c255⟩).symm, he⟩)) hSep hS (by first | exact Nat.le_of_ble_eq_true rfl | omega | (dsimp only; omega)) (by first | exact Nat.le_of_ble_eq_true rfl | omega | (dsimp only; omega)) dX4_command_263 hlocks
        · refine lv_iconst (v := (nI 1)) hx hb dX4_command_258 (by decide) ?_
          refine lv_goto (tgt := 263) hx hb dX4_command_259 (by decide) ?_
          rw [hQ]
          exact r_z (r := (nI 1)) (u := (fL, bl, bp, tl, fS, fG, fB, fP)) hx hb hr (by decide) (by rw [z26_6, gCmd_6]; first | (exact ⟨(bI_df (fun h => absurd (h.1) (by have := of_decide_eq_false c240; omega))).symm, he⟩) | (exact ⟨(bI_df (fun h => absurd h.2 (Int32.not_le.mpr c255))).symm, he⟩) | (exact ⟨(bI_dt ⟨by have := of_decide_eq_true c240; omega, Int32.not_lt.mp c255⟩).symm, he⟩)) hSep hS (by first | exact Nat.le_of_ble_eq_true rfl | omega | (dsimp only; omega)) (by first | exact Nat.le_of_ble_eq_true rfl | omega | (dsimp only; omega)) dX4_command_263 hlocks
    by_cases z26_7 : how = 7
    · refine lv_tableIn (off := 238) (tgt := 264) hx hb dX4_command_26 (by rw [z26_7]; decide) (by rw [z26_7]; decide) (by rw [z26_7]; decide) (by decide) ?_
      refine lv_iload hx hb dX4_command_264 (lv_at hl 0 rfl) ?_
      refine b_if_eq (tgt := 293) hx hb dX4_command_266 (by decide) (fun c266 => ?_) (fun c266 => ?_)
      · refine lv_iconst (v := (nI 0)) hx hb dX4_command_293 (by decide) ?_
        rw [hQ]
        exact r_z (r := (nI 0)) (u := (fL, bl, bp, tl, fS, fG, fB, fP)) hx hb hr (by decide) (by rw [z26_7, gCmd_7]; first | (exact ⟨(bI_df (fun h => absurd ((decide_eq_true h.1).symm.trans (hp23_0.symm.trans c266)) (by decide))).symm, he⟩) | (exact ⟨(bI_df (fun h => absurd h.2.1 (by have := of_decide_eq_false c274; omega))).symm, he⟩) | (exact ⟨(bI_df (fun h => of_decide_eq_false c286 h.2.2)).symm, he⟩) | (exact ⟨(bI_dt ⟨of_decide_eq_true (hp23_0.symm.trans c266), by have := of_decide_eq_true c274; omega, of_decide_eq_true c286⟩).symm, he⟩)) hSep hS (by first | exact Nat.le_of_ble_eq_true rfl | omega | (dsimp only; omega)) (by first | exact Nat.le_of_ble_eq_true rfl | omega | (dsimp only; omega)) dX4_command_294 hlocks
      · refine lv_iload hx hb dX4_command_269 (lv_at hl 1 rfl) ?_
        have hFk_47 : ∀ q, Fz (fun _ => False) H.size q → (Fz F s.heap.size) q := fun q h => by rcases h with h | h; exact h.elim; exact Fz.new (Nat.le_trans hS.1 h)
        have hPk_47 : Sep G.1 clA (Fz (fun _ => False) H.size) [] H := sp_nil
        have hJk_47 := sp_nilJ (F := (fun _ => False)) hSep (fun _ => id) hFk_47
        refine c_i (va_runS (As := [.int (nI ((10 * a1) + b1))]) (rest := []) ⟨hx, hb, hml, hown, hts⟩ (m_X4_isWord l G H.size (nI ((10 * a1) + b1)) ) (va_cwS 1 hts (lw_S q1551 q1552 q44 q1553) rfl rfl rfl (by decide +kernel) ⟨Nat.le_of_ble_eq_true rfl, Nat.le_of_ble_eq_true rfl⟩) (sp_preS hE hS hFk_47 hPk_47 trivial) rfl rfl hl.1 rfl (lv_room (Nat.le_of_ble_eq_true rfl)) dX4_command_271 ⟨by first | exact Nat.le_of_ble_eq_true rfl | omega | (dsimp only; omega), by first | exact Nat.le_of_ble_eq_true rfl | omega | (dsimp only; omega)⟩) hS hFk_47 hJk_47 (fun r_48 u_49 H locs hpk_47 hSep hS hzk_47 => ?_)
        obtain rfl : r_48 = (bI (inR (nI ((10 * a1) + b1)).toInt 0 17)) := hpk_47
        refine W.cs (cells' := 0) (slots' := 0) rfl rfl ?_
        have hSep : Sep G.1 clA (Fz F s.heap.size) [pts mo (.inr (3, [.int fR, .ref aT, .int (nI zs), .ref aN, .ref aL, .ref aP, .ref aD, .int (nI ac), .ref aK, .ref aZ, .ref aG, .ref aB, .int (nI bl), .int bp, .ref aS, .int (nI tl)])), pts aT (.inl (G.2.1 0, 20, .inl fT)), pts aL (.inl (G.2.1 0, 89, .inl fL)), pts aS (.inl (G.2.1 0, 5, .inl fS)), pts aG (.inl (G.2.1 0, 18, .inl fG)), pts aB (.inl (G.2.1 0, 5, .inl fB)), pts aP (.inl (G.2.1 0, 89, .inl fP))] H := hSep
        refine n_eq (y := (bI (decide ((10 * a1 + b1) ≤ 17)))) (congrArg bI (inR_nat (n := 17) (by omega))) ?_
        refine b_if_eq (tgt := 293) hx hb dX4_command_274 (by decide) (fun c274 => ?_) (fun c274 => ?_)
        · refine lv_iconst (v := (nI 0)) hx hb dX4_command_293 (by decide) ?_
          rw [hQ]
          exact r_z (r := (nI 0)) (u := (fL, bl, bp, tl, fS, fG, fB, fP)) hx hb hr (by decide) (by rw [z26_7, gCmd_7]; first | (exact ⟨(bI_df (fun h => absurd ((decide_eq_true h.1).symm.trans (hp23_0.symm.trans c266)) (by decide))).symm, he⟩) | (exact ⟨(bI_df (fun h => absurd h.2.1 (by have := of_decide_eq_false c274; omega))).symm, he⟩) | (exact ⟨(bI_df (fun h => of_decide_eq_false c286 h.2.2)).symm, he⟩) | (exact ⟨(bI_dt ⟨of_decide_eq_true (hp23_0.symm.trans c266), by have := of_decide_eq_true c274; omega, of_decide_eq_true c286⟩).symm, he⟩)) hSep hS (by first | exact Nat.le_of_ble_eq_true rfl | omega | (dsimp only; omega)) (by first | exact Nat.le_of_ble_eq_true rfl | omega | (dsimp only; omega)) dX4_command_294 hlocks
        · refine lv_aload_n hx hb dX4_command_277 rfl (lv_at hl 2 rfl) ?_
          refine va_get (D := G.1) (ci := 3) (v := .ref aL) (C := RX4) (T := TX4) (N := 16) hx hb hts in_X4 hown hK (hSep.cel (k := 0) rfl) 0 rfl rfl 4 (by decide) (hts _ q1477) (fun _ h9 => h9) rfl dX4_command_278 ?_
          refine lv_iload hx hb dX4_command_281 (lv_at hl 1 rfl) ?_
          have hFk_50 : ∀ q, Fz (fun _ => False) H.size q → (Fz F s.heap.size) q := fun q h => by rcases h with h | h; exact h.elim; exact Fz.new (Nat.le_trans hS.1 h)
          have hPk_50 : Sep G.1 clA (Fz (fun _ => False) H.size) [] H := sp_nil
          have hJk_50 := sp_nilJ (F := (fun _ => False)) hSep (fun _ => id) hFk_50
          refine c_i (va_runS (As := [.ref aL, .int (nI ((10 * a1) + b1))]) (rest := []) ⟨hx, hb, hml, hown, hts⟩ (m_X4_isRemembered l G H.size aL fL g ((10 * a1) + b1) (he) (by first | assumption | omega) (by first | assumption | omega)) (va_cwS 2 hts (lw_S q1564 q1565 q44 q1566) rfl rfl rfl (by decide +kernel) ⟨Nat.le_of_ble_eq_true rfl, Nat.le_of_ble_eq_true rfl⟩) (sp_preS hE hS hFk_50 hPk_50 (hSep.cel (k := 2) rfl)) rfl rfl hl.1 rfl (lv_room (Nat.le_of_ble_eq_true rfl)) dX4_command_283 ⟨by first | exact Nat.le_of_ble_eq_true rfl | omega | (dsimp only; omega), by first | exact Nat.le_of_ble_eq_true rfl | omega | (dsimp only; omega)⟩) hS hFk_50 hJk_50 (fun r_51 u_52 H locs hpk_50 hSep hS hzk_50 => ?_)
          obtain rfl : r_51 = (bI (decide (((10 * a1) + b1) ∈ gRem g))) := hpk_50
          refine W.cs (cells' := 0) (slots' := 0) rfl rfl ?_
          have hSep : Sep G.1 clA (Fz F s.heap.size) [pts mo (.inr (3, [.int fR, .ref aT, .int (nI zs), .ref aN, .ref aL, .ref aP, .ref aD, .int (nI ac), .ref aK, .ref aZ, .ref aG, .ref aB, .int (nI bl), .int bp, .ref aS, .int (nI tl)])), pts aT (.inl (G.2.1 0, 20, .inl fT)), pts aL (.inl (G.2.1 0, 89, .inl fL)), pts aS (.inl (G.2.1 0, 5, .inl fS)), pts aG (.inl (G.2.1 0, 18, .inl fG)), pts aB (.inl (G.2.1 0, 5, .inl fB)), pts aP (.inl (G.2.1 0, 89, .inl fP))] H := hSep
          refine b_if_eq (tgt := 293) hx hb dX4_command_286 (by decide) (fun c286 => ?_) (fun c286 => ?_)
          · refine lv_iconst (v := (nI 0)) hx hb dX4_command_293 (by decide) ?_
            rw [hQ]
            exact r_z (r := (nI 0)) (u := (fL, bl, bp, tl, fS, fG, fB, fP)) hx hb hr (by decide) (by rw [z26_7, gCmd_7]; first | (exact ⟨(bI_df (fun h => absurd ((decide_eq_true h.1).symm.trans (hp23_0.symm.trans c266)) (by decide))).symm, he⟩) | (exact ⟨(bI_df (fun h => absurd h.2.1 (by have := of_decide_eq_false c274; omega))).symm, he⟩) | (exact ⟨(bI_df (fun h => of_decide_eq_false c286 h.2.2)).symm, he⟩) | (exact ⟨(bI_dt ⟨of_decide_eq_true (hp23_0.symm.trans c266), by have := of_decide_eq_true c274; omega, of_decide_eq_true c286⟩).symm, he⟩)) hSep hS (by first | exact Nat.le_of_ble_eq_true rfl | omega | (dsimp only; omega)) (by first | exact Nat.le_of_ble_eq_true rfl | omega | (dsimp only; omega)) dX4_command_294 hlocks
          · refine lv_iconst (v := (nI 1)) hx hb dX4_command_289 (by decide) ?_
            refine lv_goto (tgt := 294) hx hb dX4_command_290 (by decide) ?_
            rw [hQ]
            exact r_z (r := (nI 1)) (u := (fL, bl, bp, tl, fS, fG, fB, fP)) hx hb hr (by decide) (by rw [z26_7, gCmd_7]; first | (exact ⟨(bI_df (fun h => absurd ((decide_eq_true h.1).symm.trans (hp23_0.symm.trans c266)) (by decide))).symm, he⟩) | (exact ⟨(bI_df (fun h => absurd h.2.1 (by have := of_decide_eq_false c274; omega))).symm, he⟩) | (exact ⟨(bI_df (fun h => of_decide_eq_false c286 h.2.2)).symm, he⟩) | (exact ⟨(bI_dt ⟨of_decide_eq_true (hp23_0.symm.trans c266), by have := of_decide_eq_true c274; omega, of_decide_eq_true c286⟩).symm, he⟩)) hSep hS (by first | exact Nat.le_of_ble_eq_true rfl | omega | (dsimp only; omega)) (by first | exact Nat.le_of_ble_eq_true rfl | omega | (dsimp only; omega)) dX4_command_294 hlocks
    by_cases z26_8 : how = 8
    · refine lv_tableIn (off := 269) (tgt := 295) hx hb dX4_command_26 (by rw [z26_8]; decide) (by rw [z26_8]; decide) (by rw [z26_8]; decide) (by decide) ?_
      refine lv_iload hx hb dX4_command_295 (lv_at hl 0 rfl) ?_
      refine b_if_eq (tgt := 323) hx hb dX4_command_297 (by decide) (fun c297 => ?_) (fun c297 => ?_)
      · refine lv_iconst (v := (nI 0)) hx hb dX4_command_323 (by decide) ?_
        rw [hQ]
        exact r_z (r := (nI 0)) (u := (fL, bl, bp, tl, fS, fG, fB, fP)) hx hb hr (by decide) (by rw [z26_8, gCmd_8]; first | (exact ⟨(bI_df (fun h => absurd ((decide_eq_true h.1).symm.trans (hp23_0.symm.trans c297)) (by decide))).symm, he⟩) | (exact ⟨(bI_df (fun h => absurd h.2.1 (by have := of_decide_eq_false c304; omega))).symm, he⟩) | (exact ⟨(bI_df (fun h => of_decide_eq_false c316 h.2.2)).symm, he⟩) | (exact ⟨(bI_dt ⟨of_decide_eq_true (hp23_0.symm.trans c297), by have := of_decide_eq_true c304; omega, of_decide_eq_true c316⟩).symm, he⟩)) hSep hS (by first | exact Nat.le_of_ble_eq_true rfl | omega | (dsimp only; omega)) (by first | exact Nat.le_of_ble_eq_true rfl | omega | (dsimp only; omega)) dX4_command_324 hlocks
      · refine lv_iload_n hx hb dX4_command_300 rfl (lv_at hl 4 rfl) ?_
        have hFk_53 : ∀ q, Fz (fun _ => False) H.size q → (Fz F s.heap.size) q := fun q h => by rcases h with h | h; exact h.elim; exact Fz.new (Nat.le_trans hS.1 h)
        have hPk_53 : Sep G.1 clA (Fz (fun _ => False) H.size) [] H := sp_nil
        have hJk_53 := sp_nilJ (F := (fun _ => False)) hSep (fun _ => id) hFk_53
        refine c_i (va_runS (As := [.int (nI a1)]) (rest := []) ⟨hx, hb, hml, hown, hts⟩ (m_X4_isTeller l G H.size (nI a1) ) (va_cwS 1 hts (lw_S q1577 q1578 q44 q1579) rfl rfl rfl (by decide +kernel) ⟨Nat.le_of_ble_eq_true rfl, Nat.le_of_ble_eq_true rfl⟩) (sp_preS hE hS hFk_53 hPk_53 trivial) rfl rfl hl.1 rfl (lv_room (Nat.le_of_ble_eq_true rfl)) dX4_command_301 ⟨by first | exact Nat.le_of_ble_eq_true rfl | omega | (dsimp only; omega), by first | exact Nat.le_of_ble_eq_true rfl | omega | (dsimp only; omega)⟩) hS hFk_53 hJk_53 (fun r_54 u_55 H locs hpk_53 hSep hS hzk_53 => ?_)
        obtain rfl : r_54 = (bI (inR (nI a1).toInt 0 1)) := hpk_53
        refine W.cs (cells' := 0) (slots' := 0) rfl rfl ?_
        have hSep : Sep G.1 clA (Fz F s.heap.size) [pts mo (.inr (3, [.int fR, .ref aT, .int (nI zs), .ref aN, .ref aL, .ref aP, .ref aD, .int (nI ac), .ref aK, .ref aZ, .ref aG, .ref aB, .int (nI bl), .int bp, .ref aS, .int (nI tl)])), pts aT (.inl (G.2.1 0, 20, .inl fT)), pts aL (.inl (G.2.1 0, 89, .inl fL)), pts aS (.inl (G.2.1 0, 5, .inl fS)), pts aG (.inl (G.2.1 0, 18, .inl fG)), pts aB (.inl (G.2.1 0, 5, .inl fB)), pts aP (.inl (G.2.1 0, 89, .inl fP))] H := hSep
        refine n_eq (y := (bI (decide (a1 ≤ 1)))) (congrArg bI (inR_nat (n := 1) (by omega))) ?_
        refine b_if_eq (tgt := 323) hx hb dX4_command_304 (by decide) (fun c304 => ?_) (fun c304 => ?_)
        · refine lv_iconst (v := (nI 0)) hx hb dX4_command_323 (by decide) ?_
          rw [hQ]
          exact r_z (r := (nI 0)) (u := (fL, bl, bp, tl, fS, fG, fB, fP)) hx hb hr (by decide) (by rw [z26_8, gCmd_8]; first | (exact ⟨(bI_df (fun h => absurd ((decide_eq_true h.1).symm.trans (hp23_0.symm.trans c297)) (by decide))).symm, he⟩) | (exact ⟨(bI_df (fun h => absurd h.2.1 (by have := of_decide_eq_false c304; omega))).symm, he⟩) | (exact ⟨(bI_df (fun h => of_decide_eq_false c316 h.2.2)).symm, he⟩) | (exact ⟨(bI_dt ⟨of_decide_eq_true (hp23_0.symm.trans c297), by have := of_decide_eq_true c304; omega, of_decide_eq_true c316⟩).symm, he⟩)) hSep hS (by first | exact Nat.le_of_ble_eq_true rfl | omega | (dsimp only; omega)) (by first | exact Nat.le_of_ble_eq_true rfl | omega | (dsimp only; omega)) dX4_command_324 hlocks
        · refine lv_aload_n hx hb dX4_command_307 rfl (lv_at hl 2 rfl) ?_
          refine va_get (D := G.1) (ci := 3) (v := .ref aL) (C := RX4) (T := TX4) (N := 16) hx hb hts in_X4 hown hK (hSep.cel (k := 0) rfl) 0 rfl rfl 4 (by decide) (hts _ q1477) (fun _ h9 => h9) rfl dX4_command_308 ?_
          refine lv_iload_n hx hb dX4_command_311 rfl (lv_at hl 4 rfl) ?_
          refine lv_iload_n hx hb dX4_command_312 rfl (lv_at hl 5 rfl) ?_
          have hFk_56 : ∀ q, Fz (fun _ => False) H.size q → (Fz F s.heap.size) q := fun q h => by rcases h with h | h; exact h.elim; exact Fz.new (Nat.le_trans hS.1 h)
          have hPk_56 : Sep G.1 clA (Fz (fun _ => False) H.size) [] H := sp_nil
          have hJk_56 := sp_nilJ (F := (fun _ => False)) hSep (fun _ => id) hFk_56
          refine c_i (va_runS (As := [.ref aL, .int (nI a1), .int (nI b1)]) (rest := []) ⟨hx, hb, hml, hown, hts⟩ (m_X4_isForbidden l G H.size aL fL g a1 b1 (he) (by first | assumption | omega) (by have := of_decide_eq_true c304; omega) (by first | assumption | omega)) (va_cwS 3 hts (lw_S q1581 q1582 q44 q1583) rfl rfl rfl (by decide +kernel) ⟨Nat.le_of_ble_eq_true rfl, Nat.le_of_ble_eq_true rfl⟩) (sp_preS hE hS hFk_56 hPk_56 (hSep.cel (k := 2) rfl)) rfl rfl hl.1 rfl (lv_room (Nat.le_of_ble_eq_true rfl)) dX4_command_313 ⟨by first | exact Nat.le_of_ble_eq_true rfl | omega | (dsimp only; omega), by first | exact Nat.le_of_ble_eq_true rfl | omega | (dsimp only; omega)⟩) hS hFk_56 hJk_56 (fun r_57 u_58 H locs hpk_56 hSep hS hzk_56 => ?_)
          obtain rfl : r_57 = (bI (decide (b1 ∈ gB g a1))) := hpk_56
          refine W.cs (cells' := 0) (slots' := 0) rfl rfl ?_
          have hSep : Sep G.1 clA (Fz F s.heap.size) [pts mo (.inr (3, [.int fR, .ref aT, .int (nI zs), .ref aN, .ref aL, .ref aP, .ref aD, .int (nI ac), .ref aK, .ref aZ, .ref aG, .ref aB, .int (nI bl), .int bp, .ref aS, .int (nI tl)])), pts aT (.inl (G.2.1 0, 20, .inl fT)), pts aL (.inl (G.2.1 0, 89, .inl fL)), pts aS (.inl (G.2.1 0, 5, .inl fS)), pts aG (.inl (G.2.1 0, 18, .inl fG)), pts aB (.inl (G.2.1 0, 5, .inl fB)), pts aP (.inl (G.2.1 0, 89, .inl fP))] H := hSep
          refine b_if_eq (tgt := 323) hx hb dX4_command_316 (by decide) (fun c316 => ?_) (fun c316 => ?_)
          · refine lv_iconst (v := (nI 0)) hx hb dX4_command_323 (by decide) ?_
            rw [hQ]
            exact r_z (r := (nI 0)) (u := (fL, bl, bp, tl, fS, fG, fB, fP)) hx hb hr (by decide) (by rw [z26_8, gCmd_8]; first | (exact ⟨(bI_df (fun h => absurd ((decide_eq_true h.1).symm.trans (hp23_0.symm.trans c297)) (by decide))).symm, he⟩) | (exact ⟨(bI_df (fun h => absurd h.2.1 (by have := of_decide_eq_false c304; omega))).symm, he⟩) | (exact ⟨(bI_df (fun h => of_decide_eq_false c316 h.2.2)).symm, he⟩) | (exact ⟨(bI_dt ⟨of_decide_eq_true (hp23_0.symm.trans c297), by have := of_decide_eq_true c304; omega, of_decide_eq_true c316⟩).symm, he⟩)) hSep hS (by first | exact Nat.le_of_ble_eq_true rfl | omega | (dsimp only; omega)) (by first | exact Nat.le_of_ble_eq_true rfl | omega | (dsimp only; omega)) dX4_command_324 hlocks
          · refine lv_iconst (v := (nI 1)) hx hb dX4_command_319 (by decide) ?_
            refine lv_goto (tgt := 324) hx hb dX4_command_320 (by decide) ?_
            rw [hQ]
            exact r_z (r := (nI 1)) (u := (fL, bl, bp, tl, fS, fG, fB, fP)) hx hb hr (by decide) (by rw [z26_8, gCmd_8]; first | (exact ⟨(bI_df (fun h => absurd ((decide_eq_true h.1).symm.trans (hp23_0.symm.trans c297)) (by decide))).symm, he⟩) | (exact ⟨(bI_df (fun h => absurd h.2.1 (by have := of_decide_eq_false c304; omega))).symm, he⟩) | (exact ⟨(bI_df (fun h => of_decide_eq_false c316 h.2.2)).symm, he⟩) | (exact ⟨(bI_dt ⟨of_decide_eq_true (hp23_0.symm.trans c297), by have := of_decide_eq_true c304; omega, of_decide_eq_true c316⟩).symm, he⟩)) hSep hS (by first | exact Nat.le_of_ble_eq_true rfl | omega | (dsimp only; omega)) (by first | exact Nat.le_of_ble_eq_true rfl | omega | (dsimp only; omega)) dX4_command_324 hlocks
    by_cases z26_9 : how = 9
    · refine lv_tableIn (off := 299) (tgt := 325) hx hb dX4_command_26 (by rw [z26_9]; decide) (by rw [z26_9]; decide) (by rw [z26_9]; decide) (by decide) ?_
      refine lv_iload hx hb dX4_command_325 (lv_at hl 0 rfl) ?_
      refine b_if_eq (tgt := 354) hx hb dX4_command_327 (by decide) (fun c327 => ?_) (fun c327 => ?_)
      · refine lv_iconst (v := (nI 0)) hx hb dX4_command_354 (by decide) ?_
        rw [hQ]
        exact r_z (r := (nI 0)) (u := (fL, bl, bp, tl, fS, fG, fB, fP)) hx hb hr (by decide) (by rw [z26_9, gCmd_9]; first | (exact ⟨(bI_df (fun h => absurd ((decide_eq_true h.1).symm.trans (hp23_0.symm.trans c327)) (by decide))).symm, he⟩) | (exact ⟨(bI_df (fun h => c331 h.2.1)).symm, he⟩) | (exact ⟨(bI_df (fun h => absurd h.2.2.1 (Nat.not_lt.mpr c336))).symm, he⟩) | (exact ⟨(bI_df (fun h => absurd (h.2.2.2.symm.trans c347) (by decide))).symm, he⟩) | (exact ⟨(bI_dt ⟨of_decide_eq_true (hp23_0.symm.trans c327), c331, Nat.not_le.mp c336, c347⟩).symm, he⟩)) hSep hS (by first | exact Nat.le_of_ble_eq_true rfl | omega | (dsimp only; omega)) (by first | exact Nat.le_of_ble_eq_true rfl | omega | (dsimp only; omega)) dX4_command_355 hlocks
      · refine lv_iload_n hx hb dX4_command_330 rfl (lv_at hl 4 rfl) ?_
        refine n_if_ne (tgt := 354) hx hb (by omega) dX4_command_331 (by decide) (fun c331 => ?_) (fun c331 => ?_)
        · refine lv_iconst (v := (nI 0)) hx hb dX4_command_354 (by decide) ?_
          rw [hQ]
          exact r_z (r := (nI 0)) (u := (fL, bl, bp, tl, fS, fG, fB, fP)) hx hb hr (by decide) (by rw [z26_9, gCmd_9]; first | (exact ⟨(bI_df (fun h => absurd ((decide_eq_true h.1).symm.trans (hp23_0.symm.trans c327)) (by decide))).symm, he⟩) | (exact ⟨(bI_df (fun h => c331 h.2.1)).symm, he⟩) | (exact ⟨(bI_df (fun h => absurd h.2.2.1 (Nat.not_lt.mpr c336))).symm, he⟩) | (exact ⟨(bI_df (fun h => absurd (h.2.2.2.symm.trans c347) (by decide))).symm, he⟩) | (exact ⟨(bI_dt ⟨of_decide_eq_true (hp23_0.symm.trans c327), c331, Nat.not_le.mp c336, c347⟩).symm, he⟩)) hSep hS (by first | exact Nat.le_of_ble_eq_true rfl | omega | (dsimp only; omega)) (by first | exact Nat.le_of_ble_eq_true rfl | omega | (dsimp only; omega)) dX4_command_355 hlocks
        · refine lv_iload_n hx hb dX4_command_334 rfl (lv_at hl 5 rfl) ?_
          refine lv_iconst (v := (nI 3)) hx hb dX4_command_335 (by decide) ?_
          refine n_icmp_ge (tgt := 354) hx hb (by omega) (by omega) dX4_command_336 (by decide) (fun c336 => ?_) (fun c336 => ?_)
          · refine lv_iconst (v := (nI 0)) hx hb dX4_command_354 (by decide) ?_
            rw [hQ]
            exact r_z (r := (nI 0)) (u := (fL, bl, bp, tl, fS, fG, fB, fP)) hx hb hr (by decide) (by rw [z26_9, gCmd_9]; first | (exact ⟨(bI_df (fun h => absurd ((decide_eq_true h.1).symm.trans (hp23_0.symm.trans c327)) (by decide))).symm, he⟩) | (exact ⟨(bI_df (fun h => c331 h.2.1)).symm, he⟩) | (exact ⟨(bI_df (fun h => absurd h.2.2.1 (Nat.not_lt.mpr c336))).symm, he⟩) | (exact ⟨(bI_df (fun h => absurd (h.2.2.2.symm.trans c347) (by decide))).symm, he⟩) | (exact ⟨(bI_dt ⟨of_decide_eq_true (hp23_0.symm.trans c327), c331, Nat.not_le.mp c336, c347⟩).symm, he⟩)) hSep hS (by first | exact Nat.le_of_ble_eq_true rfl | omega | (dsimp only; omega)) (by first | exact Nat.le_of_ble_eq_true rfl | omega | (dsimp only; omega)) dX4_command_355 hlocks
          · refine lv_aload_n hx hb dX4_command_339 rfl (lv_at hl 2 rfl) ?_
            refine va_get (D := G.1) (ci := 3) (v := .ref aL) (C := RX4) (T := TX4) (N := 16) hx hb hts in_X4 hown hK (hSep.cel (k := 0) rfl) 0 rfl rfl 4 (by decide) (hts _ q1477) (fun _ h9 => h9) rfl dX4_command_340 ?_
            refine lv_iload_n hx hb dX4_command_343 rfl (lv_at hl 5 rfl) ?_
            have hFk_59 : ∀ q, Fz (fun _ => False) H.size q → (Fz F s.heap.size) q := fun q h => by rcases h with h | h; exact h.elim; exact Fz.new (Nat.le_trans hS.1 h)
            have hPk_59 : Sep G.1 clA (Fz (fun _ => False) H.size) [] H := sp_nil
            have hJk_59 := sp_nilJ (F := (fun _ => False)) hSep (fun _ => id) hFk_59
            refine c_i (va_runS (As := [.ref aL, .int (nI b1)]) (rest := []) ⟨hx, hb, hml, hown, hts⟩ (m_X4_isThere l G H.size aL fL g b1 (he) (by first | assumption | omega)) (va_cwS 2 hts (lw_S q1641 q1642 q44 q1643) rfl rfl rfl (by decide +kernel) ⟨Nat.le_of_ble_eq_true rfl, Nat.le_of_ble_eq_true rfl⟩) (sp_preS hE hS hFk_59 hPk_59 (hSep.cel (k := 2) rfl)) rfl rfl hl.1 rfl (lv_room (Nat.le_of_ble_eq_true rfl)) dX4_command_344 ⟨by first | exact Nat.le_of_ble_eq_true rfl | omega | (dsimp only; omega), by first | exact Nat.le_of_ble_eq_true rfl | omega | (dsimp only; omega)⟩) hS hFk_59 hJk_59 (fun r_60 u_61 H locs hpk_59 hSep hS hzk_59 => ?_)
            obtain rfl : r_60 = (bI (gThere g b1)) := hpk_59
            refine W.cs (cells' := 0) (slots' := 0) rfl rfl ?_
            have hSep : Sep G.1 clA (Fz F s.heap.size) [pts mo (.inr (3, [.int fR, .ref aT, .int (nI zs), .ref aN, .ref aL, .ref aP, .ref aD, .int (nI ac), .ref aK, .ref aZ, .ref aG, .ref aB, .int (nI bl), .int bp, .ref aS, .int (nI tl)])), pts aT (.inl (G.2.1 0, 20, .inl fT)), pts aL (.inl (G.2.1 0, 89, .inl fL)), pts aS (.inl (G.2.1 0, 5, .inl fS)), pts aG (.inl (G.2.1 0, 18, .inl fG)), pts aB (.inl (G.2.1 0, 5, .inl fB)), pts aP (.inl (G.2.1 0, 89, .inl fP))] H := hSep
            refine b_if_eq (tgt := 354) hx hb dX4_command_347 (by decide) (fun c347 => ?_) (fun c347 => ?_)
            · refine lv_iconst (v := (nI 0)) hx hb dX4_command_354 (by decide) ?_
              rw [hQ]
              exact r_z (r := (nI 0)) (u := (fL, bl, bp, tl, fS, fG, fB, fP)) hx hb hr (by decide) (by rw [z26_9, gCmd_9]; first | (exact ⟨(bI_df (fun h => absurd ((decide_eq_true h.1).symm.trans (hp23_0.symm.trans c327)) (by decide))).symm, he⟩) | (exact ⟨(bI_df (fun h => c331 h.2.1)).symm, he⟩) | (exact ⟨(bI_df (fun h => absurd h.2.2.1 (Nat.not_lt.mpr c336))).symm, he⟩) | (exact ⟨(bI_df (fun h => absurd (h.2.2.2.symm.trans c347) (by decide))).symm, he⟩) | (exact ⟨(bI_dt ⟨of_decide_eq_true (hp23_0.symm.trans c327), c331, Nat.not_le.mp c336, c347⟩).symm, he⟩)) hSep hS (by first | exact Nat.le_of_ble_eq_true rfl | omega | (dsimp only; omega)) (by first | exact Nat.le_of_ble_eq_true rfl | omega | (dsimp only; omega)) dX4_command_355 hlocks
            · refine lv_iconst (v := (nI 1)) hx hb dX4_command_350 (by decide) ?_
              refine lv_goto (tgt := 355) hx hb dX4_command_351 (by decide) ?_
              rw [hQ]
              exact r_z (r := (nI 1)) (u := (fL, bl, bp, tl, fS, fG, fB, fP)) hx hb hr (by decide) (by rw [z26_9, gCmd_9]; first | (exact ⟨(bI_df (fun h => absurd ((decide_eq_true h.1).symm.trans (hp23_0.symm.trans c327)) (by decide))).symm, he⟩) | (exact ⟨(bI_df (fun h => c331 h.2.1)).symm, he⟩) | (exact ⟨(bI_df (fun h => absurd h.2.2.1 (Nat.not_lt.mpr c336))).symm, he⟩) | (exact ⟨(bI_df (fun h => absurd (h.2.2.2.symm.trans c347) (by decide))).symm, he⟩) | (exact ⟨(bI_dt ⟨of_decide_eq_true (hp23_0.symm.trans c327), c331, Nat.not_le.mp c336, c347⟩).symm, he⟩)) hSep hS (by first | exact Nat.le_of_ble_eq_true rfl | omega | (dsimp only; omega)) (by first | exact Nat.le_of_ble_eq_true rfl | omega | (dsimp only; omega)) dX4_command_355 hlocks
    refine lv_tableOut (tgt := 356) hx hb dX4_command_26 (by rw [show how = 0 by omega]; decide) (by decide) ?_
    refine lv_iconst (v := (nI 0)) hx hb dX4_command_356 (by decide) ?_
    rw [hQ]
    exact r_z (r := (nI 0)) (u := (fL, bl, bp, tl, fS, fG, fB, fP)) hx hb hr (by decide) (by rw [show how = 0 by omega, gCmd_0]; exact ⟨rfl, he⟩) hSep hS (by first | exact Nat.le_of_ble_eq_true rfl | omega | (dsimp only; omega)) (by first | exact Nat.le_of_ble_eq_true rfl | omega | (dsimp only; omega)) dX4_command_357 hlocks
  refine lv_aload_n hx hb dX4_command_8 rfl (lv_at hl 1 rfl) ?_
  refine va_get (D := G.1) (ci := 3) (v := .ref aL) (C := RX4) (T := TX4) (N := 16) hx hb hts in_X4 hown hK (hSep.cel (k := 0) rfl) 0 rfl rfl 4 (by decide) (hts _ q1477) (fun _ h9 => h9) rfl dX4_command_9 ?_
  refine lv_iconst (v := (nI 0)) hx hb dX4_command_12 (by decide) ?_
  refine n_iald (i := 0) hx hb hK (hSep.cel (k := 2) rfl) 0 rfl (by omega) (by omega) dX4_command_13 ?_
  refine n_eq (y := (g.1 0)) (he.num (by decide)) ?_
  refine lv_iconst (v := (nI 1)) hx hb dX4_command_14 (by decide) ?_
  refine lv_icmp_ne (tgt := 22) hx hb dX4_command_15 (by decide) (fun c15 => ?_) (fun c15 => ?_)
  · refine lv_iconst (v := (nI 0)) hx hb dX4_command_22 (by decide) ?_
    exact L23 false ((decide_eq_false c15).symm) _ _ _ hSep hS (lv_sub hl [0, 1, 2, 3, 4] rfl)
  · refine lv_iconst (v := (nI 1)) hx hb dX4_command_18 (by decide) ?_
    refine lv_goto (tgt := 23) hx hb dX4_command_19 (by decide) ?_
    exact L23 true ((decide_eq_true c15).symm) _ _ _ hSep hS (lv_sub hl [0, 1, 2, 3, 4] rfl)
