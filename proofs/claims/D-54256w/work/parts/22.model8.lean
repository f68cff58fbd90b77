set_option maxRecDepth 100000
set_option maxHeartbeats 600000 in
set_option maxRecDepth 100000 in
theorem m_X4_banOf (l : Launch) (G : EVT) (F : Nat → Prop) (sz : Nat) (mo : Nat) (fR : Int32) (aT : Nat) (zs : Nat) (aN : Nat) (aL : Nat) (aP : Nat) (aD : Nat) (ac : Nat) (aK : Nat) (aZ : Nat) (aG : Nat) (aB : Nat) (bl : Nat) (bp : Int32) (aS : Nat) (tl : Nat) (a : Nat) (f : Nat → Int32) (g : GS) (fS : Nat → Int32) (fG : Nat → Int32) (fB : Nat → Int32) (fP : Nat → Int32) (he : Enc f g) (ho : gOk g) : Met l yX4_banOf (ws_ yX4_banOf cX4_banOf 6 (some .int)) ({ frames := 4, cells := 0, slots := 0, locals := 111 } : Room) (SPc G F sz [.ref mo, .ref a] [pts mo (.inr (3, [.int fR, .ref aT, .int (nI zs), .ref aN, .ref aL, .ref aP, .ref aD, .int (nI ac), .ref aK, .ref aZ, .ref aG, .ref aB, .int (nI bl), .int bp, .ref aS, .int (nI tl)])), pts a (.inl (G.2.1 0, 89, .inl f)), pts aS (.inl (G.2.1 0, 5, .inl fS)), pts aG (.inl (G.2.1 0, 18, .inl fG)), pts aB (.inl (G.2.1 0, 5, .inl fB)), pts aP (.inl (G.2.1 0, 89, .inl fP))] (fun _ => True)) (SQi G F sz (fun (r : Int32) (u : Nat × Int32 × Nat × (Nat → Int32) × (Nat → Int32) × (Nat → Int32) × (Nat → Int32)) => r = (oI (gBanOf g))) (fun (u : Nat × Int32 × Nat × (Nat → Int32) × (Nat → Int32) × (Nat → Int32) × (Nat → Int32)) => [pts mo (.inr (3, [.int fR, .ref aT, .int (nI zs), .ref aN, .ref aL, .ref aP, .ref aD, .int (nI ac), .ref aK, .ref aZ, .ref aG, .ref aB, .int (nI u.1), .int u.2.1, .ref aS, .int (nI u.2.2.1)])), pts a (.inl (G.2.1 0, 89, .inl f)), pts aS (.inl (G.2.1 0, 5, .inl u.2.2.2.1)), pts aG (.inl (G.2.1 0, 18, .inl u.2.2.2.2.1)), pts aB (.inl (G.2.1 0, 5, .inl u.2.2.2.2.2.1)), pts aP (.inl (G.2.1 0, 89, .inl u.2.2.2.2.2.2))])) (0) (0) (Fz F sz) := by
  refine sp_of RX4 (by decide) rfl (Nat.le_of_ble_eq_true rfl) ?_
  intro p e s m args below meth c ls QQ hx hb hr hts hown hlocks hml hnm hsz hSep hΦ hE hS hl hQ
  subst hsz
  have hK := hE.1
  have hl : lv_has ls 6 [(0, .ref mo), (1, .ref a)] := hl
  have hgt := gTurn_lt g
  refine lv_iconst (v := (-1)) hx hb dX4_banOf_0 (by decide) ?_
  refine lv_istore_n (lv' := [(2, .int (-1)), (0, .ref mo), (1, .ref a)]) hx hb dX4_banOf_1 rfl hl (by decide) rfl (fun ls hl => ?_)
  refine lv_iconst (v := (nI 0)) hx hb dX4_banOf_2 (by decide) ?_
  refine lv_istore_n (lv' := [(3, .int (nI 0)), (2, .int (-1)), (0, .ref mo), (1, .ref a)]) hx hb dX4_banOf_3 rfl hl (by decide) rfl (fun ls hl => ?_)
  refine lv_iconst (v := (nI 0)) hx hb dX4_banOf_4 (by decide) ?_
  refine lv_istore (lv' := [(4, .int (nI 0)), (3, .int (nI 0)), (2, .int (-1)), (0, .ref mo), (1, .ref a)]) hx hb dX4_banOf_5 hl (by decide) rfl (fun ls hl => ?_)
  have L7 : ∀ (fu : Nat) (w : Nat) (x2 : Int32) (x3 : Int32) (bl9 : Nat) (bp9 : Int32) (tl9 : Nat) (fS9 : Nat → Int32) (fG9 : Nat → Int32) (fB9 : Nat → Int32) (fP9 : Nat → Int32) , 18 - w < fu → (w ≤ 18) → (x2 = oI (gBanN g w).1) → (x3 = ptI (gBanN g w).2) → ((gBanN g w).2 ≤ 16) → ∀ (H : Heap) (locs : List Loc) (ls : Array Slot), Sep G.1 clA (Fz F s.heap.size) [pts mo (.inr (3, [.int fR, .ref aT, .int (nI zs), .ref aN, .ref aL, .ref aP, .ref aD, .int (nI ac), .ref aK, .ref aZ, .ref aG, .ref aB, .int (nI bl9), .int bp9, .ref aS, .int (nI tl9)])), pts a (.inl (G.2.1 0, 89, .inl f)), pts aS (.inl (G.2.1 0, 5, .inl fS9)), pts aG (.inl (G.2.1 0, 18, .inl fG9)), pts aB (.inl (G.2.1 0, 5, .inl fB9)), pts aP (.inl (G.2.1 0, 89, .inl fP9))] H → va_S (Fz F s.heap.size) s.heap H locs → lv_has ls 6 [(4, .int (nI w)), (3, .int x3), (2, .int x2), (0, .ref mo), (1, .ref a)] → W p l e ({ frames := 4, cells := 0, slots := 0, locals := 111 } : Room) s m args below meth c H locs (0) (0) QQ (F0 m 7 ls []) := by
    intro fu
    induction fu with
    | zero => intro w x2 x3 bl9 bp9 tl9 fS9 fG9 fB9 fP9 hm; exact absurd hm (Nat.not_lt_zero _)
    | succ fu ih7 =>
      intro w x2 x3 bl9 bp9 tl9 fS9 fG9 fB9 fP9 hm7 hp7_0 hp7_1 hp7_2 hp7_3 H locs ls hSep hS hl
      refine lv_iload hx hb dX4_banOf_7 (lv_at hl 0 rfl) ?_
      refine lv_bipush (v := (nI 18)) hx hb dX4_banOf_9 (by decide) ?_
      refine n_icmp_ge (tgt := 81) hx hb (by omega) (by omega) dX4_banOf_11 (by decide) (fun c11 => ?_) (fun c11 => ?_)
      · obtain rfl : w = 18 := by omega
        refine lv_iload_n hx hb dX4_banOf_81 rfl (lv_at hl 2 rfl) ?_
        rw [hQ]
        exact r_i (r := x2) (u := (bl9, bp9, tl9, fS9, fG9, fB9, fP9)) hx hb hr (hp7_1) hSep hS (by first | exact Nat.le_of_ble_eq_true rfl | omega | (dsimp only; omega)) (by first | exact Nat.le_of_ble_eq_true rfl | omega | (dsimp only; omega)) dX4_banOf_82 hlocks
      · refine lv_aload_n hx hb dX4_banOf_14 rfl (lv_at hl 4 rfl) ?_
        refine lv_iload hx hb dX4_banOf_15 (lv_at hl 0 rfl) ?_
        have hFk_1 : ∀ q, Fz (fun _ => False) H.size q → (Fz F s.heap.size) q := fun q h => by rcases h with h | h; exact h.elim; exact Fz.new (Nat.le_trans hS.1 h)
        have hPk_1 : Sep G.1 clA (Fz (fun _ => False) H.size) [] H := sp_nil
        have hJk_1 := sp_nilJ (F := (fun _ => False)) hSep (fun _ => id) hFk_1
        refine c_i (va_runS (As := [.ref a, .int (nI w)]) (rest := []) ⟨hx, hb, hml, hown, hts⟩ (m_X4_canForbid l G H.size a f g w (by first | assumption | omega) (by first | assumption | omega) (by first | assumption | omega)) (va_cwS 2 hts (lw_S q1655 q1656 q44 q1657) rfl rfl rfl (by decide +kernel) ⟨Nat.le_of_ble_eq_true rfl, Nat.le_of_ble_eq_true rfl⟩) (sp_preS hE hS hFk_1 hPk_1 (hSep.cel (k := 1) rfl)) rfl rfl hl.1 rfl (lv_room (Nat.le_of_ble_eq_true rfl)) dX4_banOf_17 ⟨by first | exact Nat.le_of_ble_eq_true rfl | omega | (dsimp only; omega), by first | exact Nat.le_of_ble_eq_true rfl | omega | (dsimp only; omega)⟩) hS hFk_1 hJk_1 (fun r_2 u_3 H locs hpk_1 hSep hS hzk_1 => ?_)
        obtain rfl : r_2 = (bI (gCan g w)) := hpk_1
        refine W.cs (cells' := 0) (slots' := 0) rfl rfl ?_
        have hSep : Sep G.1 clA (Fz F s.heap.size) [pts mo (.inr (3, [.int fR, .ref aT, .int (nI zs), .ref aN, .ref aL, .ref aP, .ref aD, .int (nI ac), .ref aK, .ref aZ, .ref aG, .ref aB, .int (nI bl9), .int bp9, .ref aS, .int (nI tl9)])), pts a (.inl (G.2.1 0, 89, .inl f)), pts aS (.inl (G.2.1 0, 5, .inl fS9)), pts aG (.inl (G.2.1 0, 18, .inl fG9)), pts aB (.inl (G.2.1 0, 5, .inl fB9)), pts aP (.inl (G.2.1 0, 89, .inl fP9))] H := hSep
        refine b_if_eq (tgt := 75) hx hb dX4_banOf_20 (by decide) (fun c20 => ?_) (fun c20 => ?_)
        · have hst : gBanN g (w + 1) = gBanN g w := by rw [gBanN, if_neg]; intro h; exact absurd (h.1.symm.trans c20) (by decide)
          refine lv_iinc (v := (nI (w + 1))) (lv' := [(4, .int (nI (w + 1))), (3, .int x3), (2, .int x2), (0, .ref mo), (1, .ref a)]) hx hb dX4_banOf_75 hl (k := 0) rfl (nI_inc w 1) (by decide) rfl (fun ls hl => ?_)
          refine lv_goto (tgt := 7) hx hb dX4_banOf_78 (by decide) ?_
          exact ih7 (w + 1) x2 x3 bl9 bp9 tl9 fS9 fG9 fB9 fP9 (by omega) (by omega) (by first | (rw [hst]; exact hp7_1) | (rw [hst]; rfl) | rw [hst]) (by first | (rw [hst]; exact hp7_2) | (rw [hst]; rfl) | rw [hst]) (by first | (rw [hst]; exact hp7_3) | (rw [hst]; exact hP9) | rw [hst]) _ _ _ hSep hS (lv_sub hl [0, 1, 2, 3, 4] rfl)
        · refine lv_aload_n hx hb dX4_banOf_23 rfl (lv_at hl 4 rfl) ?_
          refine lv_iconst (v := (nI 0)) hx hb dX4_banOf_24 (by decide) ?_
          refine lv_aload_n hx hb dX4_banOf_25 rfl (lv_at hl 3 rfl) ?_
          refine va_get (D := G.1) (ci := 3) (v := .ref aP) (C := RX4) (T := TX4) (N := 16) hx hb hts in_X4 hown hK (hSep.cel (k := 0) rfl) 0 rfl rfl 5 (by decide) (hts _ q1478) (fun _ h9 => h9) rfl dX4_banOf_26 ?_
          refine lv_iconst (v := (nI 0)) hx hb dX4_banOf_29 (by decide) ?_
          obtain ⟨Fk_4, hFk_4, hPk_4, hJk_4⟩ := hSep.cut (Pc := [pts a (.inl (G.2.1 0, 89, .inl f)), pts aP (.inl (G.2.1 0, 89, .inl fP9))]) (Pr := [pts mo (.inr (3, [.int fR, .ref aT, .int (nI zs), .ref aN, .ref aL, .ref aP, .ref aD, .int (nI ac), .ref aK, .ref aZ, .ref aG, .ref aB, .int (nI bl9), .int bp9, .ref aS, .int (nI tl9)])), pts aS (.inl (G.2.1 0, 5, .inl fS9)), pts aG (.inl (G.2.1 0, 18, .inl fG9)), pts aB (.inl (G.2.1 0, 5, .inl fB9))]) (fun q h => Fz.new (Nat.le_trans hS.1 h)) [1, 5] [0, 2, 3, 4] rfl rfl rfl rfl (by decide)
          refine c_v (va_runS (As := [.ref a, .int (nI 0), .ref aP, .int (nI 0)]) (rest := []) ⟨hx, hb, hml, hown, hts⟩ (m_X4_copyState l G Fk_4 H.size a 89 f 0 aP 89 fP9 0 (by decide) (by decide) (by decide) (by decide)) (va_cwS 4 hts (lw_S q1616 q1617 q44 q1618) rfl rfl rfl (by decide +kernel) ⟨Nat.le_of_ble_eq_true rfl, Nat.le_of_ble_eq_true rfl⟩) (sp_preS hE hS hFk_4 hPk_4 trivial) rfl rfl hl.1 rfl (lv_room (Nat.le_of_ble_eq_true rfl)) dX4_banOf_30 ⟨by first | exact Nat.le_of_ble_eq_true rfl | omega | (dsimp only; omega), by first | exact Nat.le_of_ble_eq_true rfl | omega | (dsimp only; omega)⟩) hS hFk_4 hJk_4 (fun u_6 H locs hpk_4 hSep hS hzk_4 => ?_)
          refine W.cs (cells' := 0) (slots' := 0) rfl rfl ?_
          have hSep : Sep G.1 clA (Fz F s.heap.size) [pts mo (.inr (3, [.int fR, .ref aT, .int (nI zs), .ref aN, .ref aL, .ref aP, .ref aD, .int (nI ac), .ref aK, .ref aZ, .ref aG, .ref aB, .int (nI bl9), .int bp9, .ref aS, .int (nI tl9)])), pts aS (.inl (G.2.1 0, 5, .inl fS9)), pts aG (.inl (G.2.1 0, 18, .inl fG9)), pts aB (.inl (G.2.1 0, 5, .inl fB9)), pts a (.inl (G.2.1 0, 89, .inl f)), pts aP (.inl (G.2.1 0, 89, .inl (va_cpy f fP9 0 0 89)))] H := hSep
          refine lv_aload_n hx hb dX4_banOf_33 rfl (lv_at hl 3 rfl) ?_
          refine va_get (D := G.1) (ci := 3) (v := .ref aP) (C := RX4) (T := TX4) (N := 16) hx hb hts in_X4 hown hK (hSep.cel (k := 0) rfl) 0 rfl rfl 5 (by decide) (hts _ q1478) (fun _ h9 => h9) rfl dX4_banOf_34 ?_
          refine lv_iload hx hb dX4_banOf_37 (lv_at hl 0 rfl) ?_
          obtain ⟨Fk_7, hFk_7, hPk_7, hJk_7⟩ := hSep.cut (Pc := [pts aP (.inl (G.2.1 0, 89, .inl (va_cpy f fP9 0 0 89)))]) (Pr := [pts mo (.inr (3, [.int fR, .ref aT, .int (nI zs), .ref aN, .ref aL, .ref aP, .ref aD, .int (nI ac), .ref aK, .ref aZ, .ref aG, .ref aB, .int (nI bl9), .int bp9, .ref aS, .int (nI tl9)])), pts aS (.inl (G.2.1 0, 5, .inl fS9)), pts aG (.inl (G.2.1 0, 18, .inl fG9)), pts aB (.inl (G.2.1 0, 5, .inl fB9)), pts a (.inl (G.2.1 0, 89, .inl f))]) (fun q h => Fz.new (Nat.le_trans hS.1 h)) [5] [0, 1, 2, 3, 4] rfl rfl rfl rfl (by decide)
          refine c_i (va_runS (As := [.ref aP, .int (nI w)]) (rest := []) ⟨hx, hb, hml, hown, hts⟩ (m_X4_ban l G Fk_7 H.size aP (va_cpy f fP9 0 0 89) g w (he.congr ho (fun i hi => by rw [pk_cpy_in (by omega) (by omega)]; congr 1; omega)) (by first | assumption | omega) (by first | assumption | omega)) (va_cwS 2 hts (lw_S q1661 q1662 q44 q1663) rfl rfl rfl (by decide +kernel) ⟨Nat.le_of_ble_eq_true rfl, Nat.le_of_ble_eq_true rfl⟩) (sp_preS hE hS hFk_7 hPk_7 trivial) rfl rfl hl.1 rfl (lv_room (Nat.le_of_ble_eq_true rfl)) dX4_banOf_39 ⟨by first | exact Nat.le_of_ble_eq_true rfl | omega | (dsimp only; omega), by first | exact Nat.le_of_ble_eq_true rfl | omega | (dsimp only; omega)⟩) hS hFk_7 hJk_7 (fun r_8 u_9 H locs hpk_7 hSep hS hzk_7 => ?_)
          obtain ⟨f6, rfl⟩ : ∃ z, z = u_9 := ⟨_, rfl⟩
          obtain ⟨rfl, hpk_7⟩ : r_8 = (nI ((gB (gBan g w) (1 - gTurn g)).length)) ∧ Enc f6 (gBan g w) := hpk_7
          refine W.cs (cells' := 0) (slots' := 0) rfl rfl ?_
          have hSep : Sep G.1 clA (Fz F s.heap.size) [pts mo (.inr (3, [.int fR, .ref aT, .int (nI zs), .ref aN, .ref aL, .ref aP, .ref aD, .int (nI ac), .ref aK, .ref aZ, .ref aG, .ref aB, .int (nI bl9), .int bp9, .ref aS, .int (nI tl9)])), pts aS (.inl (G.2.1 0, 5, .inl fS9)), pts aG (.inl (G.2.1 0, 18, .inl fG9)), pts aB (.inl (G.2.1 0, 5, .inl fB9)), pts a (.inl (G.2.1 0, 89, .inl f)), pts aP (.inl (G.2.1 0, 89, .inl f6))] H := hSep
          have hf6 := hpk_7
          refine lv_pop hx hb dX4_banOf_42 rfl ?_
          refine lv_aload_n hx hb dX4_banOf_43 rfl (lv_at hl 3 rfl) ?_
          refine lv_aload_n hx hb dX4_banOf_44 rfl (lv_at hl 3 rfl) ?_
          refine va_get (D := G.1) (ci := 3) (v := .ref aP) (C := RX4) (T := TX4) (N := 16) hx hb hts in_X4 hown hK (hSep.cel (k := 0) rfl) 0 rfl rfl 5 (by decide) (hts _ q1478) (fun _ h9 => h9) rfl dX4_banOf_45 ?_
          refine lv_iconst (v := (nI 1)) hx hb dX4_banOf_48 (by decide) ?_
          refine lv_aload_n hx hb dX4_banOf_49 rfl (lv_at hl 4 rfl) ?_
          refine lv_iconst (v := (nI 1)) hx hb dX4_banOf_50 (by decide) ?_
          refine n_iald (i := 1) hx hb hK (hSep.cel (k := 4) rfl) 0 rfl (by omega) (by omega) dX4_banOf_51 ?_
          refine n_eq (y := (nI (gTurn g))) ((he.num (by decide)).trans (gTurn_eq ho)) ?_
          refine n_isub hx hb (by omega) dX4_banOf_52 ?_
          obtain ⟨Fk_10, hFk_10, hPk_10, hJk_10⟩ := hSep.cut (Pc := [pts mo (.inr (3, [.int fR, .ref aT, .int (nI zs), .ref aN, .ref aL, .ref aP, .ref aD, .int (nI ac), .ref aK, .ref aZ, .ref aG, .ref aB, .int (nI bl9), .int bp9, .ref aS, .int (nI tl9)])), pts aP (.inl (G.2.1 0, 89, .inl f6)), pts aS (.inl (G.2.1 0, 5, .inl fS9)), pts aG (.inl (G.2.1 0, 18, .inl fG9)), pts aB (.inl (G.2.1 0, 5, .inl fB9))]) (Pr := [pts a (.inl (G.2.1 0, 89, .inl f))]) (fun q h => Fz.new (Nat.le_trans hS.1 h)) [0, 5, 1, 2, 3] [4] rfl rfl rfl rfl (by decide)
          refine c_i (va_runV (As := [.ref aP, .int (nI (1 - (gTurn g)))]) (rest := []) ⟨hx, hb, hml, hown, hts⟩ (m_X4_bestOf l G Fk_10 H.size mo fR aT zs aN aL aP aD ac aK aZ aG aB bl9 bp9 aS tl9 aP f6 (gBan g w) (1 - gTurn g) fS9 fB9 fG9 (hf6) (gOk_ban ho (by omega)) (by omega)) (cwV 2 hts (lw_V q1682 q1684 qs30 q44 q1685) rfl rfl rfl (by decide +kernel) ⟨Nat.le_of_ble_eq_true rfl, Nat.le_of_ble_eq_true rfl⟩) (sp_preV hE hS hFk_10 hPk_10 trivial (sp_recv (ci := 3) hK (hSep.cel (k := 0) rfl) rfl)) rfl rfl hl.1 rfl (lv_room (Nat.le_of_ble_eq_true rfl)) dX4_banOf_53 ⟨by first | exact Nat.le_of_ble_eq_true rfl | omega | (dsimp only; omega), by first | exact Nat.le_of_ble_eq_true rfl | omega | (dsimp only; omega)⟩) hS hFk_10 hJk_10 (fun r_11 u_12 H locs hpk_10 hSep hS hzk_10 => ?_)
          obtain ⟨P2, b2, fS4_13, fB4_14, tl4_15, fG4_16⟩ := u_12
          obtain ⟨rfl, hpk_10⟩ : r_11 = (ptI P2) ∧ BestOn (smS (gain (gBan g w))) (okS (bnG (gBan g w) (1 - gTurn g))) P2 b2 ∧ Pre fB4_14 b2 := hpk_10
          refine W.cs (cells' := 0) (slots' := 0) rfl rfl ?_
          have hSep : Sep G.1 clA (Fz F s.heap.size) [pts a (.inl (G.2.1 0, 89, .inl f)), pts mo (.inr (3, [.int fR, .ref aT, .int (nI zs), .ref aN, .ref aL, .ref aP, .ref aD, .int (nI ac), .ref aK, .ref aZ, .ref aG, .ref aB, .int (nI b2.length), .int (ptI P2), .ref aS, .int (nI tl4_15)])), pts aP (.inl (G.2.1 0, 89, .inl f6)), pts aS (.inl (G.2.1 0, 5, .inl fS4_13)), pts aG (.inl (G.2.1 0, 18, .inl fG4_16)), pts aB (.inl (G.2.1 0, 5, .inl fB4_14))] H := hSep
          have hF := hpk_10
          have hbs := bst_eq hF.1
          have hbeh : gBeh g w = P2 := by unfold gBeh; rw [hbs]
          have hP9 : P2 ≤ 16 := (hF.1.info (fun s h => h) (gain_le _)).1
          refine lv_istore (lv' := [(5, .int (ptI P2)), (4, .int (nI w)), (3, .int x3), (2, .int x2), (0, .ref mo), (1, .ref a)]) hx hb dX4_banOf_56 hl (by decide) rfl (fun ls hl => ?_)
          refine lv_iload_n hx hb dX4_banOf_58 rfl (lv_at hl 3 rfl) ?_
          refine lv_iconst (v := (-1)) hx hb dX4_banOf_59 (by decide) ?_
          refine lv_icmp_eq (tgt := 69) hx hb dX4_banOf_60 (by decide) (fun c60 => ?_) (fun c60 => ?_)
          · have hst : gBanN g (w + 1) = (some w, P2) := by rw [gBanN, if_pos ⟨c20, Or.inl ((oI_none (fun v h => by have := gBanN_lt g w v h; omega)).mp (by rw [← hp7_1]; exact c60))⟩, hbeh]
            refine lv_iload hx hb dX4_banOf_69 (lv_at hl 1 rfl) ?_
            refine lv_istore_n (lv' := [(2, .int (nI w)), (5, .int (ptI P2)), (4, .int (nI w)), (3, .int x3), (0, .ref mo), (1, .ref a)]) hx hb dX4_banOf_71 rfl hl (by decide) rfl (fun ls hl => ?_)
            refine lv_iload hx hb dX4_banOf_72 (lv_at hl 1 rfl) ?_
            refine lv_istore_n (lv' := [(3, .int (ptI P2)), (2, .int (nI w)), (5, .int (ptI P2)), (4, .int (nI w)), (0, .ref mo), (1, .ref a)]) hx hb dX4_banOf_74 rfl hl (by decide) rfl (fun ls hl => ?_)
            refine lv_iinc (v := (nI (w + 1))) (lv' := [(4, .int (nI (w + 1))), (3, .int (ptI P2)), (2, .int (nI w)), (5, .int (ptI P2)), (0, .ref mo), (1, .ref a)]) hx hb dX4_banOf_75 hl (k := 3) rfl (nI_inc w 1) (by decide) rfl (fun ls hl => ?_)
            refine lv_goto (tgt := 7) hx hb dX4_banOf_78 (by decide) ?_
            exact ih7 (w + 1) (nI w) (ptI P2) b2.length (ptI P2) tl4_15 fS4_13 fG4_16 fB4_14 f6 (by omega) (by omega) (by first | (rw [hst]; exact hp7_1) | (rw [hst]; rfl) | rw [hst]) (by first | (rw [hst]; exact hp7_2) | (rw [hst]; rfl) | rw [hst]) (by first | (rw [hst]; exact hp7_3) | (rw [hst]; exact hP9) | rw [hst]) _ _ _ (hSep.pick [1, 0, 3, 4, 5, 2] rfl rfl) hS (lv_sub hl [0, 1, 2, 4, 5] rfl)
          · refine lv_iload hx hb dX4_banOf_63 (lv_at hl 0 rfl) ?_
            refine lv_iload_n hx hb dX4_banOf_65 rfl (lv_at hl 2 rfl) ?_
            refine lv_icmp_ge (tgt := 75) hx hb dX4_banOf_66 (by decide) (fun c66 => ?_) (fun c66 => ?_)
            · have hst : gBanN g (w + 1) = gBanN g w := by rw [gBanN, if_neg]; rintro ⟨-, h | h⟩; exact c60 (by rw [hp7_1, h]; rfl); rw [hbeh] at h; exact absurd ((ptI_lt (by omega) (by omega)).mpr h) (by rw [← hp7_2]; exact Int32.not_lt.mpr c66)
              refine lv_iinc (v := (nI (w + 1))) (lv' := [(4, .int (nI (w + 1))), (5, .int (ptI P2)), (3, .int x3), (2, .int x2), (0, .ref mo), (1, .ref a)]) hx hb dX4_banOf_75 hl (k := 1) rfl (nI_inc w 1) (by decide) rfl (fun ls hl => ?_)
              refine lv_goto (tgt := 7) hx hb dX4_banOf_78 (by decide) ?_
              exact ih7 (w + 1) x2 x3 b2.length (ptI P2) tl4_15 fS4_13 fG4_16 fB4_14 f6 (by omega) (by omega) (by first | (rw [hst]; exact hp7_1) | (rw [hst]; rfl) | rw [hst]) (by first | (rw [hst]; exact hp7_2) | (rw [hst]; rfl) | rw [hst]) (by first | (rw [hst]; exact hp7_3) | (rw [hst]; exact hP9) | rw [hst]) _ _ _ (hSep.pick [1, 0, 3, 4, 5, 2] rfl rfl) hS (lv_sub hl [0, 2, 3, 4, 5] rfl)
            · have hst : gBanN g (w + 1) = (some w, P2) := by rw [gBanN, if_pos ⟨c20, Or.inr (by rw [hbeh]; exact (ptI_lt (by omega) (by omega)).mp (by rw [← hp7_2]; exact Int32.not_le.mp c66))⟩, hbeh]
              refine lv_iload hx hb dX4_banOf_69 (lv_at hl 1 rfl) ?_
              refine lv_istore_n (lv' := [(2, .int (nI w)), (5, .int (ptI P2)), (4, .int (nI w)), (3, .int x3), (0, .ref mo), (1, .ref a)]) hx hb dX4_banOf_71 rfl hl (by decide) rfl (fun ls hl => ?_)
              refine lv_iload hx hb dX4_banOf_72 (lv_at hl 1 rfl) ?_
              refine lv_istore_n (lv' := [(3, .int (ptI P2)), (2, .int (nI w)), (5, .int (ptI P2)), (4, .int (nI w)), (0, .ref mo), (1, .ref a)]) hx hb dX4_banOf_74 rfl hl (by decide) rfl (fun ls hl => ?_)
              refine lv_iinc (v := (nI (w + 1))) (lv' := [(4, .int (nI (w + 1))), (3, .int (ptI P2)), (2, .int (nI w)), (5, .int (ptI P2)), (0, .ref mo), (1, .ref a)]) hx hb dX4_banOf_75 hl (k := 3) rfl (nI_inc w 1) (by decide) rfl (fun ls hl => ?_)
              refine lv_goto (tgt := 7) hx hb dX4_banOf_78 (by decide) ?_
              exact ih7 (w + 1) (nI w) (ptI P2) b2.length (ptI P2) tl4_15 fS4_13 fG4_16 fB4_14 f6 (by omega) (by omega) (by first | (rw [hst]; exact hp7_1) | (rw [hst]; rfl) | rw [hst]) (by first | (rw [hst]; exact hp7_2) | (rw [hst]; rfl) | rw [hst]) (by first | (rw [hst]; exact hp7_3) | (rw [hst]; exact hP9) | rw [hst]) _ _ _ (hSep.pick [1, 0, 3, 4, 5, 2] rfl rfl) hS (lv_sub hl [0, 1, 2, 4, 5] rfl)
  exact L7 (18 - 0 + 1) 0 (-1) (nI 0) bl bp tl fS fG fB fP (Nat.lt_succ_self _) (by decide) (rfl) (rfl) (show 1 ≤ 16 by decide) _ _ _ hSep hS (lv_sub hl [0, 1, 2, 3, 4] rfl)

set_option maxHeartbeats 600000 in
set_option maxRecDepth 100000 in
theorem m_X4_playOn (l : Launch) (G : EVT) (F : Nat → Prop) (sz : Nat) (mo : Nat) (fR : Int32) (aT : Nat) (zs : Nat) (aN : Nat) (aL : Nat) (aP : Nat) (aD : Nat) (ac : Nat) (aK : Nat) (aZ : Nat) (aG : Nat) (aB : Nat) (bl : Nat) (bp : Int32) (aS : Nat) (tl : Nat) (a : Nat) (f : Nat → Int32) (g : GS) (fS : Nat → Int32) (fG : Nat → Int32) (fB : Nat → Int32) (fP : Nat → Int32) (he : Enc f g) (ho : gOk g) : Met l yX4_playOn (ws_ yX4_playOn cX4_playOn 4 (some .int)) ({ frames := 5, cells := 0, slots := 0, locals := 136 } : Room) (SPc G F sz [.ref mo, .ref a] [pts mo (.inr (3, [.int fR, .ref aT, .int (nI zs), .ref aN, .ref aL, .ref aP, .ref aD, .int (nI ac), .ref aK, .ref aZ, .ref aG, .ref aB, .int (nI bl), .int bp, .ref aS, .int (nI tl)])), pts a (.inl (G.2.1 0, 89, .inl f)), pts aS (.inl (G.2.1 0, 5, .inl fS)), pts aG (.inl (G.2.1 0, 18, .inl fG)), pts aB (.inl (G.2.1 0, 5, .inl fB)), pts aP (.inl (G.2.1 0, 89, .inl fP))] (fun _ => True)) (SQi G F sz (fun (r : Int32) (u : (Nat → Int32) × Nat × Int32 × Nat × (Nat → Int32) × (Nat → Int32) × (Nat → Int32) × (Nat → Int32)) => r = ((gPlay g).2) ∧ Enc u.1 (gPlay g).1 ∧ ¬ (gPlay g).2 < -1) (fun (u : (Nat → Int32) × Nat × Int32 × Nat × (Nat → Int32) × (Nat → Int32) × (Nat → Int32) × (Nat → Int32)) => [pts mo (.inr (3, [.int fR, .ref aT, .int (nI zs), .ref aN, .ref aL, .ref aP, .ref aD, .int (nI ac), .ref aK, .ref aZ, .ref aG, .ref aB, .int (nI u.2.1), .int u.2.2.1, .ref aS, .int (nI u.2.2.2.1)])), pts a (.inl (G.2.1 0, 89, .inl u.1)), pts aS (.inl (G.2.1 0, 5, .inl u.2.2.2.2.1)), pts aG (.inl (G.2.1 0, 18, .inl u.2.2.2.2.2.1)), pts aB (.inl (G.2.1 0, 5, .inl u.2.2.2.2.2.2.1)), pts aP (.inl (G.2.1 0, 89, .inl u.2.2.2.2.2.2.2))])) (0) (0) (Fz F sz) := by
  refine sp_of RX4 (by decide) rfl (Nat.le_of_ble_eq_true rfl) ?_
  intro p e s m args below meth c ls QQ hx hb hr hts hown hlocks hml hnm hsz hSep hΦ hE hS hl hQ
  subst hsz
  have hK := hE.1
  have hl : lv_has ls 4 [(0, .ref mo), (1, .ref a)] := hl
  have hgt := gTurn_lt g
  refine lv_iconst (v := (nI 0)) hx hb dX4_playOn_0 (by decide) ?_
  refine lv_istore_n (lv' := [(2, .int (nI 0)), (0, .ref mo), (1, .ref a)]) hx hb dX4_playOn_1 rfl hl (by decide) rfl (fun ls hl => ?_)
  have L71 : ∀ (g9 : GS) (y2 : Int32) (f2 : Nat → Int32) (bl9 : Nat) (bp9 : Int32) (tl9 : Nat) (fS9 : Nat → Int32) (fG9 : Nat → Int32) (fB9 : Nat → Int32) , (Enc f2 g9) → (gOk g9) → (gPlay g = (gRest g9, y2)) → (¬ y2 < -1) → ∀ (H : Heap) (locs : List Loc) (ls : Array Slot), Sep G.1 clA (Fz F s.heap.size) [pts mo (.inr (3, [.int fR, .ref aT, .int (nI zs), .ref aN, .ref aL, .ref aP, .ref aD, .int (nI ac), .ref aK, .ref aZ, .ref aG, .ref aB, .int (nI bl9), .int bp9, .ref aS, .int (nI tl9)])), pts a (.inl (G.2.1 0, 89, .inl f2)), pts aS (.inl (G.2.1 0, 5, .inl fS9)), pts aG (.inl (G.2.1 0, 18, .inl fG9)), pts aB (.inl (G.2.1 0, 5, .inl fB9)), pts aP (.inl (G.2.1 0, 89, .inl fP))] H → va_S (Fz F s.heap.size) s.heap H locs → lv_has ls 4 [(2, .int y2), (0, .ref mo), (1, .ref a)] → W p l e ({ frames := 5, cells := 0, slots := 0, locals := 136 } : Room) s m args below meth c H locs (0) (0) QQ (F0 m 71 ls []) := by
    intro g9 y2 f2 bl9 bp9 tl9 fS9 fG9 fB9 hp71_0 hp71_1 hp71_2 hp71_3 H locs ls hSep hS hl
    refine lv_aload_n hx hb dX4_playOn_71 rfl (lv_at hl 1 rfl) ?_
    refine lv_aload_n hx hb dX4_playOn_72 rfl (lv_at hl 2 rfl) ?_
    obtain ⟨Fk_1, hFk_1, hPk_1, hJk_1⟩ := hSep.cut (Pc := [pts mo (.inr (3, [.int fR, .ref aT, .int (nI zs), .ref aN, .ref aL, .ref aP, .ref aD, .int (nI ac), .ref aK, .ref aZ, .ref aG, .ref aB, .int (nI bl9), .int bp9, .ref aS, .int (nI tl9)])), pts a (.inl (G.2.1 0, 89, .inl f2)), pts aS (.inl (G.2.1 0, 5, .inl fS9)), pts aG (.inl (G.2.1 0, 18, .inl fG9)), pts aB (.inl (G.2.1 0, 5, .inl fB9)), pts aP (.inl (G.2.1 0, 89, .inl fP))]) (Pr := []) (fun q h => Fz.new (Nat.le_trans hS.1 h)) [0, 1, 2, 3, 4, 5] [] rfl rfl rfl rfl (by decide)
    refine c_i (va_runV (As := [.ref a]) (rest := []) ⟨hx, hb, hml, hown, hts⟩ (m_X4_banOf l G Fk_1 H.size mo fR aT zs aN aL aP aD ac aK aZ aG aB bl9 bp9 aS tl9 a f2 g9 fS9 fG9 fB9 fP (hp71_0) (hp71_1)) (cwV 1 hts (lw_V q1702 q1704 qs35 q44 q1705) rfl rfl rfl (by decide +kernel) ⟨Nat.le_of_ble_eq_true rfl, Nat.le_of_ble_eq_true rfl⟩) (sp_preV hE hS hFk_1 hPk_1 trivial (sp_recv (ci := 3) hK (hSep.cel (k := 0) rfl) rfl)) rfl rfl hl.1 rfl (lv_room (Nat.le_of_ble_eq_true rfl)) dX4_playOn_73 ⟨by first | exact Nat.le_of_ble_eq_true rfl | omega | (dsimp only; omega), by first | exact Nat.le_of_ble_eq_true rfl | omega | (dsimp only; omega)⟩) hS hFk_1 hJk_1 (fun r_2 u_3 H locs hpk_1 hSep hS hzk_1 => ?_)
    obtain ⟨bl4_4, bp4_5, tl4_6, fS4_7, fG4_8, fB4_9, fP4_10⟩ := u_3
    obtain rfl : r_2 = (oI (gBanOf g9)) := hpk_1
    refine W.cs (cells' := 0) (slots' := 0) rfl rfl ?_
    have hSep : Sep G.1 clA (Fz F s.heap.size) [pts mo (.inr (3, [.int fR, .ref aT, .int (nI zs), .ref aN, .ref aL, .ref aP, .ref aD, .int (nI ac), .ref aK, .ref aZ, .ref aG, .ref aB, .int (nI bl4_4), .int bp4_5, .ref aS, .int (nI tl4_6)])), pts a (.inl (G.2.1 0, 89, .inl f2)), pts aS (.inl (G.2.1 0, 5, .inl fS4_7)), pts aG (.inl (G.2.1 0, 18, .inl fG4_8)), pts aB (.inl (G.2.1 0, 5, .inl fB4_9)), pts aP (.inl (G.2.1 0, 89, .inl fP4_10))] H := hSep
    refine lv_istore_n (lv' := [(3, .int (oI (gBanOf g9))), (2, .int y2), (0, .ref mo), (1, .ref a)]) hx hb dX4_playOn_76 rfl hl (by decide) rfl (fun ls hl => ?_)
    refine lv_iload_n hx hb dX4_playOn_77 rfl (lv_at hl 0 rfl) ?_
    refine lv_iconst (v := (-1)) hx hb dX4_playOn_78 (by decide) ?_
    refine lv_icmp_ne (tgt := 90) hx hb dX4_playOn_79 (by decide) (fun c79 => ?_) (fun c79 => ?_)
    · obtain ⟨w9, hw8⟩ : ∃ w9, gBanOf g9 = some w9 := by
          cases h9 : gBanOf g9 with
          | none => exact absurd (by rw [h9]; rfl) c79
          | some w => exact ⟨w, rfl⟩
      have hw9 := gBanOf_lt hw8
      rw [hw8] at hl
      refine lv_aload_n hx hb dX4_playOn_90 rfl (lv_at hl 3 rfl) ?_
      refine lv_iload_n hx hb dX4_playOn_91 rfl (lv_at hl 0 rfl) ?_
      obtain ⟨Fk_11, hFk_11, hPk_11, hJk_11⟩ := hSep.cut (Pc := [pts a (.inl (G.2.1 0, 89, .inl f2))]) (Pr := [pts mo (.inr (3, [.int fR, .ref aT, .int (nI zs), .ref aN, .ref aL, .ref aP, .ref aD, .int (nI ac), .ref aK, .ref aZ, .ref aG, .ref aB, .int (nI bl4_4), .int bp4_5, .ref aS, .int (nI tl4_6)])), pts aS (.inl (G.2.1 0, 5, .inl fS4_7)), pts aG (.inl (G.2.1 0, 18, .inl fG4_8)), pts aB (.inl (G.2.1 0, 5, .inl fB4_9)), pts aP (.inl (G.2.1 0, 89, .inl fP4_10))]) (fun q h => Fz.new (Nat.le_trans hS.1 h)) [1] [0, 2, 3, 4, 5] rfl rfl rfl rfl (by decide)
      refine c_i (va_runS (As := [.ref a, .int (nI w9)]) (rest := []) ⟨hx, hb, hml, hown, hts⟩ (m_X4_forbidOn l G Fk_11 H.size a f2 g9 w9 (hp71_0) (hp71_1) (hw9)) (va_cwS 2 hts (lw_S q1658 q1659 q44 q1660) rfl rfl rfl (by decide +kernel) ⟨Nat.le_of_ble_eq_true rfl, Nat.le_of_ble_eq_true rfl⟩) (sp_preS hE hS hFk_11 hPk_11 trivial) rfl rfl hl.1 rfl (lv_room (Nat.le_of_ble_eq_true rfl)) dX4_playOn_92 ⟨by first | exact Nat.le_of_ble_eq_true rfl | omega | (dsimp only; omega), by first | exact Nat.le_of_ble_eq_true rfl | omega | (dsimp only; omega)⟩) hS hFk_11 hJk_11 (fun r_12 u_13 H locs hpk_11 hSep hS hzk_11 => ?_)
      obtain ⟨f8, rfl⟩ : ∃ z, z = u_13 := ⟨_, rfl⟩
      obtain ⟨rfl, hpk_11⟩ : r_12 = (nI ((gB (gBan g9 w9) (1 - gTurn g9)).length)) ∧ Enc f8 (gForbid g9 w9) := hpk_11
      refine W.cs (cells' := 0) (slots' := 0) rfl rfl ?_
      have hSep : Sep G.1 clA (Fz F s.heap.size) [pts mo (.inr (3, [.int fR, .ref aT, .int (nI zs), .ref aN, .ref aL, .ref aP, .ref aD, .int (nI ac), .ref aK, .ref aZ, .ref aG, .ref aB, .int (nI bl4_4), .int bp4_5, .ref aS, .int (nI tl4_6)])), pts aS (.inl (G.2.1 0, 5, .inl fS4_7)), pts aG (.inl (G.2.1 0, 18, .inl fG4_8)), pts aB (.inl (G.2.1 0, 5, .inl fB4_9)), pts aP (.inl (G.2.1 0, 89, .inl fP4_10)), pts a (.inl (G.2.1 0, 89, .inl f8))] H := hSep
      have hf8 := hpk_11
      refine lv_pop hx hb dX4_playOn_95 rfl ?_
      refine lv_iload_n hx hb dX4_playOn_96 rfl (lv_at hl 1 rfl) ?_
      rw [hQ]
      exact r_i (r := y2) (u := (f8, bl4_4, bp4_5, tl4_6, fS4_7, fG4_8, fB4_9, fP4_10)) hx hb hr (by rw [hp71_2]; refine ⟨rfl, ?_, hp71_3⟩; unfold gRest; rw [hw8]; exact hf8) (hSep.pick [0, 5, 1, 2, 3, 4] rfl rfl) hS (by first | exact Nat.le_of_ble_eq_true rfl | omega | (dsimp only; omega)) (by first | exact Nat.le_of_ble_eq_true rfl | omega | (dsimp only; omega)) dX4_playOn_97 hlocks
    · have hw8 : gBanOf g9 = none := (oI_none (fun v h => gBanOf_lt h)).mp c79
      refine lv_aload_n hx hb dX4_playOn_82 rfl (lv_at hl 3 rfl) ?_
      obtain ⟨Fk_14, hFk_14, hPk_14, hJk_14⟩ := hSep.cut (Pc := [pts a (.inl (G.2.1 0, 89, .inl f2))]) (Pr := [pts mo (.inr (3, [.int fR, .ref aT, .int (nI zs), .ref aN, .ref aL, .ref aP, .ref aD, .int (nI ac), .ref aK, .ref aZ, .ref aG, .ref aB, .int (nI bl4_4), .int bp4_5, .ref aS, .int (nI tl4_6)])), pts aS (.inl (G.2.1 0, 5, .inl fS4_7)), pts aG (.inl (G.2.1 0, 18, .inl fG4_8)), pts aB (.inl (G.2.1 0, 5, .inl fB4_9)), pts aP (.inl (G.2.1 0, 89, .inl fP4_10))]) (fun q h => Fz.new (Nat.le_trans hS.1 h)) [1] [0, 2, 3, 4, 5] rfl rfl rfl rfl (by decide)
      refine c_i (va_runS (As := [.ref a]) (rest := []) ⟨hx, hb, hml, hown, hts⟩ (m_X4_doneOn l G Fk_14 H.size a f2 g9 (hp71_0) (hp71_1)) (va_cwS 1 hts (lw_S q1671 q1672 q44 q1673) rfl rfl rfl (by decide +kernel) ⟨Nat.le_of_ble_eq_true rfl, Nat.le_of_ble_eq_true rfl⟩) (sp_preS hE hS hFk_14 hPk_14 trivial) rfl rfl hl.1 rfl (lv_room (Nat.le_of_ble_eq_true rfl)) dX4_playOn_83 ⟨by first | exact Nat.le_of_ble_eq_true rfl | omega | (dsimp only; omega), by first | exact Nat.le_of_ble_eq_true rfl | omega | (dsimp only; omega)⟩) hS hFk_14 hJk_14 (fun r_15 u_16 H locs hpk_14 hSep hS hzk_14 => ?_)
      obtain ⟨f8, rfl⟩ : ∃ z, z = u_16 := ⟨_, rfl⟩
      obtain ⟨rfl, hpk_14⟩ : r_15 = (gNextV (gDone g9)) ∧ Enc f8 (gDone g9) := hpk_14
      refine W.cs (cells' := 0) (slots' := 0) rfl rfl ?_
      have hSep : Sep G.1 clA (Fz F s.heap.size) [pts mo (.inr (3, [.int fR, .ref aT, .int (nI zs), .ref aN, .ref aL, .ref aP, .ref aD, .int (nI ac), .ref aK, .ref aZ, .ref aG, .ref aB, .int (nI bl4_4), .int bp4_5, .ref aS, .int (nI tl4_6)])), pts aS (.inl (G.2.1 0, 5, .inl fS4_7)), pts aG (.inl (G.2.1 0, 18, .inl fG4_8)), pts aB (.inl (G.2.1 0, 5, .inl fB4_9)), pts aP (.inl (G.2.1 0, 89, .inl fP4_10)), pts a (.inl (G.2.1 0, 89, .inl f8))] H := hSep
      have hf8 := hpk_14
      refine lv_pop hx hb dX4_playOn_86 rfl ?_
      refine lv_goto (tgt := 96) hx hb dX4_playOn_87 (by decide) ?_
      refine lv_iload_n hx hb dX4_playOn_96 rfl (lv_at hl 1 rfl) ?_
      rw [hQ]
      exact r_i (r := y2) (u := (f8, bl4_4, bp4_5, tl4_6, fS4_7, fG4_8, fB4_9, fP4_10)) hx hb hr (by rw [hp71_2]; refine ⟨rfl, ?_, hp71_3⟩; unfold gRest; rw [hw8]; exact hf8) (hSep.pick [0, 5, 1, 2, 3, 4] rfl rfl) hS (by first | exact Nat.le_of_ble_eq_true rfl | omega | (dsimp only; omega)) (by first | exact Nat.le_of_ble_eq_true rfl | omega | (dsimp only; omega)) dX4_playOn_97 hlocks
  refine lv_aload_n hx hb dX4_playOn_2 rfl (lv_at hl 2 rfl) ?_
  refine lv_iconst (v := (nI 2)) hx hb dX4_playOn_3 (by decide) ?_
  refine n_iald (i := 2) hx hb hK (hSep.cel (k := 1) rfl) 0 rfl (by omega) (by omega) dX4_playOn_4 ?_
  refine n_eq (y := (g.1 2)) (he.num (by decide)) ?_
  refine lv_if_ne (tgt := 71) hx hb dX4_playOn_5 (by decide) (fun c5 => ?_) (fun c5 => ?_)
  · exact L71 g (nI 0) f bl bp tl fS fG fB (he) (ho) (by unfold gPlay; rw [if_neg (show ¬ g.1 2 = nI 0 from c5)]) (by decide) _ _ _ hSep hS (lv_sub hl [0, 1, 2] rfl)
  · refine lv_aload_n hx hb dX4_playOn_8 rfl (lv_at hl 1 rfl) ?_
    refine lv_aload_n hx hb dX4_playOn_9 rfl (lv_at hl 2 rfl) ?_
    refine lv_aload_n hx hb dX4_playOn_10 rfl (lv_at hl 2 rfl) ?_
    refine lv_iconst (v := (nI 1)) hx hb dX4_playOn_11 (by decide) ?_
    refine n_iald (i := 1) hx hb hK (hSep.cel (k := 1) rfl) 0 rfl (by omega) (by omega) dX4_playOn_12 ?_
    refine n_eq (y := (nI (gTurn g))) ((he.num (by decide)).trans (gTurn_eq ho)) ?_
    obtain ⟨Fk_17, hFk_17, hPk_17, hJk_17⟩ := hSep.cut (Pc := [pts mo (.inr (3, [.int fR, .ref aT, .int (nI zs), .ref aN, .ref aL, .ref aP, .ref aD, .int (nI ac), .ref aK, .ref aZ, .ref aG, .ref aB, .int (nI bl), .int bp, .ref aS, .int (nI tl)])), pts a (.inl (G.2.1 0, 89, .inl f)), pts aS (.inl (G.2.1 0, 5, .inl fS)), pts aG (.inl (G.2.1 0, 18, .inl fG)), pts aB (.inl (G.2.1 0, 5, .inl fB))]) (Pr := [pts aP (.inl (G.2.1 0, 89, .inl fP))]) (fun q h => Fz.new (Nat.le_trans hS.1 h)) [0, 1, 2, 3, 4] [5] rfl rfl rfl rfl (by decide)
    refine c_i (va_runV (As := [.ref a, .int (nI (gTurn g))]) (rest := []) ⟨hx, hb, hml, hown, hts⟩ (m_X4_bestOf l G Fk_17 s.heap.size mo fR aT zs aN aL aP aD ac aK aZ aG aB bl bp aS tl a f g (gTurn g) fS fB fG (by first | assumption | omega) (by first | assumption | omega) (by first | assumption | omega)) (cwV 2 hts (lw_V q1682 q1684 qs30 q44 q1685) rfl rfl rfl (by decide +kernel) ⟨Nat.le_of_ble_eq_true rfl, Nat.le_of_ble_eq_true rfl⟩) (sp_preV hE hS hFk_17 hPk_17 trivial (sp_recv (ci := 3) hK (hSep.cel (k := 0) rfl) rfl)) rfl rfl hl.1 rfl (lv_room (Nat.le_of_ble_eq_true rfl)) dX4_playOn_13 ⟨by first | exact Nat.le_of_ble_eq_true rfl | omega | (dsimp only; omega), by first | exact Nat.le_of_ble_eq_true rfl | omega | (dsimp only; omega)⟩) hS hFk_17 hJk_17 (fun r_18 u_19 H locs hpk_17 hSep hS hzk_17 => ?_)
    obtain ⟨P2, b2, fS5, fB5, tl5, fG5⟩ := u_19
    obtain ⟨rfl, hpk_17⟩ : r_18 = (ptI P2) ∧ BestOn (smS (gain g)) (okS (bnG g (gTurn g))) P2 b2 ∧ Pre fB5 b2 := hpk_17
    refine W.cs (cells' := 0) (slots' := 0) rfl rfl ?_
    have hSep : Sep G.1 clA (Fz F s.heap.size) [pts aP (.inl (G.2.1 0, 89, .inl fP)), pts mo (.inr (3, [.int fR, .ref aT, .int (nI zs), .ref aN, .ref aL, .ref aP, .ref aD, .int (nI ac), .ref aK, .ref aZ, .ref aG, .ref aB, .int (nI b2.length), .int (ptI P2), .ref aS, .int (nI tl5)])), pts a (.inl (G.2.1 0, 89, .inl f)), pts aS (.inl (G.2.1 0, 5, .inl fS5)), pts aG (.inl (G.2.1 0, 18, .inl fG5)), pts aB (.inl (G.2.1 0, 5, .inl fB5))] H := hSep
    have hF := hpk_17
    have hbs := bst_eq hF.1
    refine lv_istore_n (lv' := [(2, .int (ptI P2)), (0, .ref mo), (1, .ref a)]) hx hb dX4_playOn_16 rfl hl (by decide) rfl (fun ls hl => ?_)
    refine lv_iload_n hx hb dX4_playOn_17 rfl (lv_at hl 0 rfl) ?_
    refine lv_iconst (v := (-1)) hx hb dX4_playOn_18 (by decide) ?_
    refine lv_icmp_ne (tgt := 29) hx hb dX4_playOn_19 (by decide) (fun c19 => ?_) (fun c19 => ?_)
    · have hP0 : ¬ P2 = 0 := fun h => c19 (by rw [h]; rfl)
      have hi9 := hF.1.info (fun s h => h) (gain_le _)
      have hb5 := hi9.2.1
      have hb18 := hi9.2.2
      refine lv_aload_n hx hb dX4_playOn_29 rfl (lv_at hl 1 rfl) ?_
      refine lv_aload_n hx hb dX4_playOn_30 rfl (lv_at hl 1 rfl) ?_
      refine va_get (D := G.1) (ci := 3) (v := .int (nI b2.length)) (C := RX4) (T := TX4) (N := 16) hx hb hts in_X4 hown hK (hSep.cel (k := 1) rfl) 0 rfl rfl 12 (by decide) (hts _ q1485) (fun _ h9 => h9) rfl dX4_playOn_31 ?_
      refine s_put (ci := 3) (v := .int (nI b2.length)) (ty := .int) (C := RX4) (T := TX4) (N := 16) hx hb hts in_X4 tyX4 tyX4_ok nmX4 hown hK hSep hS 1 rfl rfl 15 (by decide) (hts _ q1488) (fun _ h9 => h9) rfl (by decide +kernel) rfl rfl (Nat.le_of_ble_eq_true rfl) dX4_playOn_34 (fun H locs hSep hS => ?_)
      have hSep : Sep G.1 clA (Fz F s.heap.size) [pts aP (.inl (G.2.1 0, 89, .inl fP)), pts mo (.inr (3, [.int fR, .ref aT, .int (nI zs), .ref aN, .ref aL, .ref aP, .ref aD, .int (nI ac), .ref aK, .ref aZ, .ref aG, .ref aB, .int (nI b2.length), .int (ptI P2), .ref aS, .int (nI b2.length)])), pts a (.inl (G.2.1 0, 89, .inl f)), pts aS (.inl (G.2.1 0, 5, .inl fS5)), pts aG (.inl (G.2.1 0, 18, .inl fG5)), pts aB (.inl (G.2.1 0, 5, .inl fB5))] H := hSep
      refine lv_iconst (v := (nI 0)) hx hb dX4_playOn_37 (by decide) ?_
      refine lv_istore_n (lv' := [(3, .int (nI 0)), (2, .int (ptI P2)), (0, .ref mo), (1, .ref a)]) hx hb dX4_playOn_38 rfl hl (by decide) rfl (fun ls hl => ?_)
      have L39 : ∀ (fu : Nat) (k : Nat) (fS8 : Nat → Int32) , b2.length - k < fu → (k ≤ b2.length) → (∀ j, j < k → fS8 j = nI (b2.getD j 0)) → ∀ (H : Heap) (locs : List Loc) (ls : Array Slot), Sep G.1 clA (Fz F s.heap.size) [pts aP (.inl (G.2.1 0, 89, .inl fP)), pts mo (.inr (3, [.int fR, .ref aT, .int (nI zs), .ref aN, .ref aL, .ref aP, .ref aD, .int (nI ac), .ref aK, .ref aZ, .ref aG, .ref aB, .int (nI b2.length), .int (ptI P2), .ref aS, .int (nI b2.length)])), pts a (.inl (G.2.1 0, 89, .inl f)), pts aS (.inl (G.2.1 0, 5, .inl fS8)), pts aG (.inl (G.2.1 0, 18, .inl fG5)), pts aB (.inl (G.2.1 0, 5, .inl fB5))] H → va_S (Fz F s.heap.size) s.heap H locs → lv_has ls 4 [(3, .int (nI k)), (2, .int (ptI P2)), (0, .ref mo), (1, .ref a)] → W p l e ({ frames := 5, cells := 0, slots := 0, locals := 136 } : Room) s m args below meth c H locs (0) (0) QQ (F0 m 39 ls []) := by
        intro fu
        induction fu with
        | zero => intro k fS8 hm; exact absurd hm (Nat.not_lt_zero _)
        | succ fu ih39 =>
          intro k fS8 hm39 hp39_0 hp39_1 H locs ls hSep hS hl
          refine lv_iload_n hx hb dX4_playOn_39 rfl (lv_at hl 0 rfl) ?_
          refine lv_aload_n hx hb dX4_playOn_40 rfl (lv_at hl 2 rfl) ?_
          refine va_get (D := G.1) (ci := 3) (v := .int (nI b2.length)) (C := RX4) (T := TX4) (N := 16) hx hb hts in_X4 hown hK (hSep.cel (k := 1) rfl) 0 rfl rfl 12 (by decide) (hts _ q1485) (fun _ h9 => h9) rfl dX4_playOn_41 ?_
          refine n_icmp_ge (tgt := 65) hx hb (by omega) (by omega) dX4_playOn_44 (by decide) (fun c44 => ?_) (fun c44 => ?_)
          · obtain rfl : k = b2.length := by omega
            refine lv_aload_n hx hb dX4_playOn_65 rfl (lv_at hl 2 rfl) ?_
            refine lv_aload_n hx hb dX4_playOn_66 rfl (lv_at hl 3 rfl) ?_
            obtain ⟨Fk_20, hFk_20, hPk_20, hJk_20⟩ := hSep.cut (Pc := [pts mo (.inr (3, [.int fR, .ref aT, .int (nI zs), .ref aN, .ref aL, .ref aP, .ref aD, .int (nI ac), .ref aK, .ref aZ, .ref aG, .ref aB, .int (nI b2.length), .int (ptI P2), .ref aS, .int (nI b2.length)])), pts aS (.inl (G.2.1 0, 5, .inl fS8)), pts a (.inl (G.2.1 0, 89, .inl f))]) (Pr := [pts aP (.inl (G.2.1 0, 89, .inl fP)), pts aG (.inl (G.2.1 0, 18, .inl fG5)), pts aB (.inl (G.2.1 0, 5, .inl fB5))]) (fun q h => Fz.new (Nat.le_trans hS.1 h)) [1, 3, 2] [0, 4, 5] rfl rfl rfl rfl (by decide)
            refine c_i (va_runV (As := [.ref a]) (rest := []) ⟨hx, hb, hml, hown, hts⟩ (m_X4_tellOn l G Fk_20 H.size mo fR aT zs aN aL aP aD ac aK aZ aG aB b2.length (ptI P2) aS b2.length a f g fS8 b2 (by first | assumption | omega) (by first | assumption | omega) (hp39_1) (rfl) (hb5) (hb18)) (cwV 1 hts (lw_V q1637 q1639 qs27 q44 q1640) rfl rfl rfl (by decide +kernel) ⟨Nat.le_of_ble_eq_true rfl, Nat.le_of_ble_eq_true rfl⟩) (sp_preV hE hS hFk_20 hPk_20 trivial (sp_recv (ci := 3) hK (hSep.cel (k := 1) rfl) rfl)) rfl rfl hl.1 rfl (lv_room (Nat.le_of_ble_eq_true rfl)) dX4_playOn_67 ⟨by first | exact Nat.le_of_ble_eq_true rfl | omega | (dsimp only; omega), by first | exact Nat.le_of_ble_eq_true rfl | omega | (dsimp only; omega)⟩) hS hFk_20 hJk_20 (fun r_21 u_22 H locs hpk_20 hSep hS hzk_20 => ?_)
            obtain ⟨f8, rfl⟩ : ∃ z, z = u_22 := ⟨_, rfl⟩
            obtain ⟨rfl, hpk_20⟩ : r_21 = (nI (gPts g b2 3)) ∧ Enc f8 (gTell g b2) := hpk_20
            refine W.cs (cells' := 0) (slots' := 0) rfl rfl ?_
            have hSep : Sep G.1 clA (Fz F s.heap.size) [pts aP (.inl (G.2.1 0, 89, .inl fP)), pts aG (.inl (G.2.1 0, 18, .inl fG5)), pts aB (.inl (G.2.1 0, 5, .inl fB5)), pts mo (.inr (3, [.int fR, .ref aT, .int (nI zs), .ref aN, .ref aL, .ref aP, .ref aD, .int (nI ac), .ref aK, .ref aZ, .ref aG, .ref aB, .int (nI b2.length), .int (ptI P2), .ref aS, .int (nI b2.length)])), pts aS (.inl (G.2.1 0, 5, .inl fS8)), pts a (.inl (G.2.1 0, 89, .inl f8))] H := hSep
            have hf8 := hpk_20
            refine lv_pop hx hb dX4_playOn_70 rfl ?_
            exact L71 (gTell g b2) (ptI P2) f8 b2.length (ptI P2) b2.length fS8 fG5 fB5 (hf8) (gOk_tell ho hb5 hb18) (by unfold gPlay; rw [if_pos (show g.1 2 = nI 0 from c5), hbs, if_neg hP0]) (ptI_ge P2 (by omega)) _ _ _ (hSep.pick [3, 5, 4, 1, 2, 0] rfl rfl) hS (lv_sub hl [1, 2, 3] rfl)
          · refine lv_aload_n hx hb dX4_playOn_47 rfl (lv_at hl 2 rfl) ?_
            refine va_get (D := G.1) (ci := 3) (v := .ref aS) (C := RX4) (T := TX4) (N := 16) hx hb hts in_X4 hown hK (hSep.cel (k := 1) rfl) 0 rfl rfl 14 (by decide) (hts _ q1487) (fun _ h9 => h9) rfl dX4_playOn_48 ?_
            refine lv_iload_n hx hb dX4_playOn_51 rfl (lv_at hl 0 rfl) ?_
            refine lv_aload_n hx hb dX4_playOn_52 rfl (lv_at hl 2 rfl) ?_
            refine va_get (D := G.1) (ci := 3) (v := .ref aB) (C := RX4) (T := TX4) (N := 16) hx hb hts in_X4 hown hK (hSep.cel (k := 1) rfl) 0 rfl rfl 11 (by decide) (hts _ q1484) (fun _ h9 => h9) rfl dX4_playOn_53 ?_
            refine lv_iload_n hx hb dX4_playOn_56 rfl (lv_at hl 0 rfl) ?_
            refine n_iald (i := k) hx hb hK (hSep.cel (k := 5) rfl) 0 rfl (by omega) (by omega) dX4_playOn_57 ?_
            refine n_eq (y := (nI (b2.getD k 0))) (hF.2 k (by omega)) ?_
            refine n_iast (i := k) (x := (nI (b2.getD k 0))) (y := (nI (b2.getD k 0))) hx hb hK hSep hS 3 rfl 0 rfl (by omega) (by omega) (rfl) dX4_playOn_58 (fun H locs hSep hS => ?_)
            have hSep : Sep G.1 clA (Fz F s.heap.size) [pts aP (.inl (G.2.1 0, 89, .inl fP)), pts mo (.inr (3, [.int fR, .ref aT, .int (nI zs), .ref aN, .ref aL, .ref aP, .ref aD, .int (nI ac), .ref aK, .ref aZ, .ref aG, .ref aB, .int (nI b2.length), .int (ptI P2), .ref aS, .int (nI b2.length)])), pts a (.inl (G.2.1 0, 89, .inl f)), pts aS (.inl (G.2.1 0, 5, .inl (upd fS8 k (nI (b2.getD k 0))))), pts aG (.inl (G.2.1 0, 18, .inl fG5)), pts aB (.inl (G.2.1 0, 5, .inl fB5))] H := hSep
            refine lv_iinc (v := (nI (k + 1))) (lv' := [(3, .int (nI (k + 1))), (2, .int (ptI P2)), (0, .ref mo), (1, .ref a)]) hx hb dX4_playOn_59 hl (k := 0) rfl (nI_inc k 1) (by decide) rfl (fun ls hl => ?_)
            refine lv_goto (tgt := 39) hx hb dX4_playOn_62 (by decide) ?_
            exact ih39 (k + 1) (upd fS8 k (nI (b2.getD k 0))) (by omega) (by omega) (fun j h => by by_cases e9 : j = k; rw [e9, upd_s rfl]; rw [upd_n e9]; exact hp39_1 j (by omega)) _ _ _ hSep hS (lv_sub hl [0, 1, 2, 3] rfl)
      exact L39 (b2.length - 0 + 1) 0 fS5 (Nat.lt_succ_self _) (Nat.zero_le _) (fun j h => absurd h (Nat.not_lt_zero _)) _ _ _ hSep hS (lv_sub hl [0, 1, 2, 3] rfl)
    · have hP0 : P2 = 0 := by unfold ptI at c19; split at c19; assumption; exact absurd c19 (fun h => absurd (show nI (P2 - 1) < 0 by rw [h]; decide) (nI_pos (by have := (hF.1.info (fun s h => h) (gain_le _)).1; omega)))
      refine lv_aload_n hx hb dX4_playOn_22 rfl (lv_at hl 2 rfl) ?_
      obtain ⟨Fk_23, hFk_23, hPk_23, hJk_23⟩ := hSep.cut (Pc := [pts a (.inl (G.2.1 0, 89, .inl f))]) (Pr := [pts aP (.inl (G.2.1 0, 89, .inl fP)), pts mo (.inr (3, [.int fR, .ref aT, .int (nI zs), .ref aN, .ref aL, .ref aP, .ref aD, .int (nI ac), .ref aK, .ref aZ, .ref aG, .ref aB, .int (nI b2.length), .int (ptI P2), .ref aS, .int (nI tl5)])), pts aS (.inl (G.2.1 0, 5, .inl fS5)), pts aG (.inl (G.2.1 0, 18, .inl fG5)), pts aB (.inl (G.2.1 0, 5, .inl fB5))]) (fun q h => Fz.new (Nat.le_trans hS.1 h)) [2] [0, 1, 3, 4, 5] rfl rfl rfl rfl (by decide)
      refine c_i (va_runS (As := [.ref a]) (rest := []) ⟨hx, hb, hml, hown, hts⟩ (m_X4_doneOn l G Fk_23 H.size a f g (by first | assumption | omega) (by first | assumption | omega)) (va_cwS 1 hts (lw_S q1671 q1672 q44 q1673) rfl rfl rfl (by decide +kernel) ⟨Nat.le_of_ble_eq_true rfl, Nat.le_of_ble_eq_true rfl⟩) (sp_preS hE hS hFk_23 hPk_23 trivial) rfl rfl hl.1 rfl (lv_room (Nat.le_of_ble_eq_true rfl)) dX4_playOn_23 ⟨by first | exact Nat.le_of_ble_eq_true rfl | omega | (dsimp only; omega), by first | exact Nat.le_of_ble_eq_true rfl | omega | (dsimp only; omega)⟩) hS hFk_23 hJk_23 (fun r_24 u_25 H locs hpk_23 hSep hS hzk_23 => ?_)
      obtain ⟨f8, rfl⟩ : ∃ z, z = u_25 := ⟨_, rfl⟩
      obtain ⟨rfl, hpk_23⟩ : r_24 = (gNextV (gDone g)) ∧ Enc f8 (gDone g) := hpk_23
      refine W.cs (cells' := 0) (slots' := 0) rfl rfl ?_
      have hSep : Sep G.1 clA (Fz F s.heap.size) [pts aP (.inl (G.2.1 0, 89, .inl fP)), pts mo (.inr (3, [.int fR, .ref aT, .int (nI zs), .ref aN, .ref aL, .ref aP, .ref aD, .int (nI ac), .ref aK, .ref aZ, .ref aG, .ref aB, .int (nI b2.length), .int (ptI P2), .ref aS, .int (nI tl5)])), pts aS (.inl (G.2.1 0, 5, .inl fS5)), pts aG (.inl (G.2.1 0, 18, .inl fG5)), pts aB (.inl (G.2.1 0, 5, .inl fB5)), pts a (.inl (G.2.1 0, 89, .inl f8))] H := hSep
      have hf8 := hpk_23
      refine lv_pop hx hb dX4_playOn_26 rfl ?_
      refine lv_iconst (v := (-1)) hx hb dX4_playOn_27 (by decide) ?_
      rw [hQ]
      exact r_i (r := (-1)) (u := (f8, b2.length, ptI P2, tl5, fS5, fG5, fB5, fP)) hx hb hr (by unfold gPlay; rw [if_pos (show g.1 2 = nI 0 from c5), hbs, if_pos hP0]; exact ⟨rfl, hf8, show ¬ (-1 : Int32) < -1 by decide⟩) (hSep.pick [1, 5, 2, 3, 4, 0] rfl rfl) hS (by first | exact Nat.le_of_ble_eq_true rfl | omega | (dsimp only; omega)) (by first | exact Nat.le_of_ble_eq_true rfl | omega | (dsimp only; omega)) dX4_playOn_28 hlocks
