set_option maxRecDepth 100000
set_option maxHeartbeats 600000 in
set_option maxRecDepth 100000 in
theorem m_X4_reckon (l : Launch) (G : EVT) (F : Nat → Prop) (sz : Nat) (mo : Nat) (fR : Int32) (aT : Nat) (zs : Nat) (aN : Nat) (aL : Nat) (aP : Nat) (aD : Nat) (ac : Nat) (aK : Nat) (aZ : Nat) (aG : Nat) (aB : Nat) (bl : Nat) (bp : Int32) (aS : Nat) (tl : Nat) (a : Nat) (f : Nat → Int32) (g : GS) (t : Nat) (fG : Nat → Int32) (he : Enc f g) (ho : gOk g) (ht : t < 2) : Met l yX4_reckon (ws_ yX4_reckon cX4_reckon 7 none) ({ frames := 2, cells := 0, slots := 0, locals := 63 } : Room) (SPc G F sz [.ref mo, .ref a, .int (nI t)] [pts mo (.inr (3, [.int fR, .ref aT, .int (nI zs), .ref aN, .ref aL, .ref aP, .ref aD, .int (nI ac), .ref aK, .ref aZ, .ref aG, .ref aB, .int (nI bl), .int bp, .ref aS, .int (nI tl)])), pts a (.inl (G.2.1 0, 89, .inl f)), pts aG (.inl (G.2.1 0, 18, .inl fG))] (fun _ => True)) (SQv G F sz (fun (u : (Nat → Int32)) => ∀ w, w < 18 → u w = gI (bnG g t) (gain g) w) (fun (u : (Nat → Int32)) => [pts mo (.inr (3, [.int fR, .ref aT, .int (nI zs), .ref aN, .ref aL, .ref aP, .ref aD, .int (nI ac), .ref aK, .ref aZ, .ref aG, .ref aB, .int (nI bl), .int bp, .ref aS, .int (nI tl)])), pts a (.inl (G.2.1 0, 89, .inl f)), pts aG (.inl (G.2.1 0, 18, .inl u))])) (0) (0) (Fz F sz) := by
  refine sp_of RX4 (by decide) rfl (Nat.le_of_ble_eq_true rfl) ?_
  intro p e s m args below meth c ls QQ hx hb hr hts hown hlocks hml hnm hsz hSep hΦ hE hS hl hQ
  subst hsz
  have hK := hE.1
  have hl : lv_has ls 7 [(0, .ref mo), (1, .ref a), (2, .int (nI t))] := hl
  refine lv_iconst (v := (nI 0)) hx hb dX4_reckon_0 (by decide) ?_
  refine lv_istore_n (lv' := [(3, .int (nI 0)), (0, .ref mo), (1, .ref a), (2, .int (nI t))]) hx hb dX4_reckon_1 rfl hl (by decide) rfl (fun ls hl => ?_)
  have L2 : ∀ (fu : Nat) (w : Nat) (fG3 : Nat → Int32) , 18 - w < fu → (w ≤ 18) → (∀ j, j < w → fG3 j = gI (bnG g t) (gain g) j) → ∀ (H : Heap) (locs : List Loc) (ls : Array Slot), Sep G.1 clA (Fz F s.heap.size) [pts mo (.inr (3, [.int fR, .ref aT, .int (nI zs), .ref aN, .ref aL, .ref aP, .ref aD, .int (nI ac), .ref aK, .ref aZ, .ref aG, .ref aB, .int (nI bl), .int bp, .ref aS, .int (nI tl)])), pts a (.inl (G.2.1 0, 89, .inl f)), pts aG (.inl (G.2.1 0, 18, .inl fG3))] H → va_S (Fz F s.heap.size) s.heap H locs → lv_has ls 7 [(3, .int (nI w)), (0, .ref mo), (1, .ref a), (2, .int (nI t))] → W p l e ({ frames := 2, cells := 0, slots := 0, locals := 63 } : Room) s m args below meth c H locs (0) (0) QQ (F0 m 2 ls []) := by
    intro fu
    induction fu with
    | zero => intro w fG3 hm; exact absurd hm (Nat.not_lt_zero _)
    | succ fu ih2 =>
      intro w fG3 hm2 hp2_0 hp2_1 H locs ls hSep hS hl
      refine lv_iload_n hx hb dX4_reckon_2 rfl (lv_at hl 0 rfl) ?_
      refine lv_bipush (v := (nI 18)) hx hb dX4_reckon_3 (by decide) ?_
      refine n_icmp_ge (tgt := 94) hx hb (by omega) (by omega) dX4_reckon_5 (by decide) (fun c5 => ?_) (fun c5 => ?_)
      · rw [hQ]
        exact r_v (u := fG3) hx hb hr (fun w9 h9 => hp2_1 w9 (by omega)) hSep hS (by first | exact Nat.le_of_ble_eq_true rfl | omega | (dsimp only; omega)) (by first | exact Nat.le_of_ble_eq_true rfl | omega | (dsimp only; omega)) dX4_reckon_94 hlocks
      · refine lv_iconst (v := (nI 0)) hx hb dX4_reckon_8 (by decide) ?_
        refine lv_istore (lv' := [(4, .int (nI 0)), (3, .int (nI w)), (0, .ref mo), (1, .ref a), (2, .int (nI t))]) hx hb dX4_reckon_9 hl (by decide) rfl (fun ls hl => ?_)
        refine lv_aload_n hx hb dX4_reckon_11 rfl (lv_at hl 3 rfl) ?_
        refine lv_iload_n hx hb dX4_reckon_12 rfl (lv_at hl 1 rfl) ?_
        have hFk_1 : ∀ q, Fz (fun _ => False) H.size q → (Fz F s.heap.size) q := fun q h => by rcases h with h | h; exact h.elim; exact Fz.new (Nat.le_trans hS.1 h)
        have hPk_1 : Sep G.1 clA (Fz (fun _ => False) H.size) [] H := sp_nil
        have hJk_1 := sp_nilJ (F := (fun _ => False)) hSep (fun _ => id) hFk_1
        refine c_i (va_runS (As := [.ref a, .int (nI w)]) (rest := []) ⟨hx, hb, hml, hown, hts⟩ (m_X4_isRemembered l G H.size a f g w (by first | assumption | omega) (by first | assumption | omega) (by first | assumption | omega)) (va_cwS 2 hts (lw_S q1564 q1565 q44 q1566) rfl rfl rfl (by decide +kernel) ⟨Nat.le_of_ble_eq_true rfl, Nat.le_of_ble_eq_true rfl⟩) (sp_preS hE hS hFk_1 hPk_1 (hSep.cel (k := 1) rfl)) rfl rfl hl.1 rfl (lv_room (Nat.le_of_ble_eq_true rfl)) dX4_reckon_13 ⟨by first | exact Nat.le_of_ble_eq_true rfl | omega | (dsimp only; omega), by first | exact Nat.le_of_ble_eq_true rfl | omega | (dsimp only; omega)⟩) hS hFk_1 hJk_1 (fun r_2 u_3 H locs hpk_1 hSep hS hzk_1 => ?_)
        obtain rfl : r_2 = (bI (decide (w ∈ gRem g))) := hpk_1
        refine W.cs (cells' := 0) (slots' := 0) rfl rfl ?_
        have hSep : Sep G.1 clA (Fz F s.heap.size) [pts mo (.inr (3, [.int fR, .ref aT, .int (nI zs), .ref aN, .ref aL, .ref aP, .ref aD, .int (nI ac), .ref aK, .ref aZ, .ref aG, .ref aB, .int (nI bl), .int bp, .ref aS, .int (nI tl)])), pts a (.inl (G.2.1 0, 89, .inl f)), pts aG (.inl (G.2.1 0, 18, .inl fG3))] H := hSep
        refine lv_istore (lv' := [(5, .int (bI (decide (w ∈ gRem g)))), (4, .int (nI 0)), (3, .int (nI w)), (0, .ref mo), (1, .ref a), (2, .int (nI t))]) hx hb dX4_reckon_16 hl (by decide) rfl (fun ls hl => ?_)
        refine lv_iconst (v := (nI 0)) hx hb dX4_reckon_18 (by decide) ?_
        refine lv_istore (lv' := [(6, .int (nI 0)), (5, .int (bI (decide (w ∈ gRem g)))), (4, .int (nI 0)), (3, .int (nI w)), (0, .ref mo), (1, .ref a), (2, .int (nI t))]) hx hb dX4_reckon_19 hl (by decide) rfl (fun ls hl => ?_)
        have L21 : ∀ (fu : Nat) (j : Nat) (y : Nat) , 3 - j < fu → (j ≤ 3) → (y = gainN g w j) → ∀ (H : Heap) (locs : List Loc) (ls : Array Slot), Sep G.1 clA (Fz F s.heap.size) [pts mo (.inr (3, [.int fR, .ref aT, .int (nI zs), .ref aN, .ref aL, .ref aP, .ref aD, .int (nI ac), .ref aK, .ref aZ, .ref aG, .ref aB, .int (nI bl), .int bp, .ref aS, .int (nI tl)])), pts a (.inl (G.2.1 0, 89, .inl f)), pts aG (.inl (G.2.1 0, 18, .inl fG3))] H → va_S (Fz F s.heap.size) s.heap H locs → lv_has ls 7 [(6, .int (nI j)), (5, .int (bI (decide (w ∈ gRem g)))), (4, .int (nI y)), (3, .int (nI w)), (0, .ref mo), (1, .ref a), (2, .int (nI t))] → W p l e ({ frames := 2, cells := 0, slots := 0, locals := 63 } : Room) s m args below meth c H locs (0) (0) QQ (F0 m 21 ls []) := by
          intro fu
          induction fu with
          | zero => intro j y hm; exact absurd hm (Nat.not_lt_zero _)
          | succ fu ih21 =>
            intro j y hm21 hp21_0 hp21_1 H locs ls hSep hS hl
            refine lv_iload hx hb dX4_reckon_21 (lv_at hl 0 rfl) ?_
            refine lv_iconst (v := (nI 3)) hx hb dX4_reckon_23 (by decide) ?_
            refine n_icmp_ge (tgt := 67) hx hb (by omega) (by omega) dX4_reckon_24 (by decide) (fun c24 => ?_) (fun c24 => ?_)
            · obtain rfl : j = 3 := by omega
              refine lv_aload_n hx hb dX4_reckon_67 rfl (lv_at hl 4 rfl) ?_
              refine va_get (D := G.1) (ci := 3) (v := .ref aG) (C := RX4) (T := TX4) (N := 16) hx hb hts in_X4 hown hK (hSep.cel (k := 0) rfl) 0 rfl rfl 10 (by decide) (hts _ q1483) (fun _ h9 => h9) rfl dX4_reckon_68 ?_
              refine lv_iload_n hx hb dX4_reckon_71 rfl (lv_at hl 3 rfl) ?_
              refine lv_aload_n hx hb dX4_reckon_72 rfl (lv_at hl 5 rfl) ?_
              refine lv_iload_n hx hb dX4_reckon_73 rfl (lv_at hl 6 rfl) ?_
              refine lv_iload_n hx hb dX4_reckon_74 rfl (lv_at hl 3 rfl) ?_
              have hFk_4 : ∀ q, Fz (fun _ => False) H.size q → (Fz F s.heap.size) q := fun q h => by rcases h with h | h; exact h.elim; exact Fz.new (Nat.le_trans hS.1 h)
              have hPk_4 : Sep G.1 clA (Fz (fun _ => False) H.size) [] H := sp_nil
              have hJk_4 := sp_nilJ (F := (fun _ => False)) hSep (fun _ => id) hFk_4
              refine c_i (va_runS (As := [.ref a, .int (nI t), .int (nI w)]) (rest := [.int (nI w), .ref aG]) ⟨hx, hb, hml, hown, hts⟩ (m_X4_isForbidden l G H.size a f g t w (by first | assumption | omega) (by first | assumption | omega) (by first | assumption | omega) (by first | assumption | omega)) (va_cwS 3 hts (lw_S q1581 q1582 q44 q1583) rfl rfl rfl (by decide +kernel) ⟨Nat.le_of_ble_eq_true rfl, Nat.le_of_ble_eq_true rfl⟩) (sp_preS hE hS hFk_4 hPk_4 (hSep.cel (k := 1) rfl)) rfl rfl hl.1 rfl (lv_room (Nat.le_of_ble_eq_true rfl)) dX4_reckon_75 ⟨by first | exact Nat.le_of_ble_eq_true rfl | omega | (dsimp only; omega), by first | exact Nat.le_of_ble_eq_true rfl | omega | (dsimp only; omega)⟩) hS hFk_4 hJk_4 (fun r_5 u_6 H locs hpk_4 hSep hS hzk_4 => ?_)
              obtain rfl : r_5 = (bI (decide (w ∈ gB g t))) := hpk_4
              refine W.cs (cells' := 0) (slots' := 0) rfl rfl ?_
              have hSep : Sep G.1 clA (Fz F s.heap.size) [pts mo (.inr (3, [.int fR, .ref aT, .int (nI zs), .ref aN, .ref aL, .ref aP, .ref aD, .int (nI ac), .ref aK, .ref aZ, .ref aG, .ref aB, .int (nI bl), .int bp, .ref aS, .int (nI tl)])), pts a (.inl (G.2.1 0, 89, .inl f)), pts aG (.inl (G.2.1 0, 18, .inl fG3))] H := hSep
              have L87 : ∀ (x : Int32) , (x = gI (bnG g t) (gain g) w) → ∀ (H : Heap) (locs : List Loc) (ls : Array Slot), Sep G.1 clA (Fz F s.heap.size) [pts mo (.inr (3, [.int fR, .ref aT, .int (nI zs), .ref aN, .ref aL, .ref aP, .ref aD, .int (nI ac), .ref aK, .ref aZ, .ref aG, .ref aB, .int (nI bl), .int bp, .ref aS, .int (nI tl)])), pts a (.inl (G.2.1 0, 89, .inl f)), pts aG (.inl (G.2.1 0, 18, .inl fG3))] H → va_S (Fz F s.heap.size) s.heap H locs → lv_has ls 7 [(6, .int (nI 3)), (5, .int (bI (decide (w ∈ gRem g)))), (4, .int (nI y)), (3, .int (nI w)), (0, .ref mo), (1, .ref a), (2, .int (nI t))] → W p l e ({ frames := 2, cells := 0, slots := 0, locals := 63 } : Room) s m args below meth c H locs (0) (0) QQ (F0 m 87 ls [.int x, .int (nI w), .ref aG]) := by
                intro x hp87_0 H locs ls hSep hS hl
                refine n_iast (i := w) (x := x) (y := x) hx hb hK hSep hS 2 rfl 0 rfl (by omega) (by omega) (rfl) dX4_reckon_87 (fun H locs hSep hS => ?_)
                have hSep : Sep G.1 clA (Fz F s.heap.size) [pts mo (.inr (3, [.int fR, .ref aT, .int (nI zs), .ref aN, .ref aL, .ref aP, .ref aD, .int (nI ac), .ref aK, .ref aZ, .ref aG, .ref aB, .int (nI bl), .int bp, .ref aS, .int (nI tl)])), pts a (.inl (G.2.1 0, 89, .inl f)), pts aG (.inl (G.2.1 0, 18, .inl (upd fG3 w x)))] H := hSep
                refine lv_iinc (v := (nI (w + 1))) (lv' := [(3, .int (nI (w + 1))), (6, .int (nI 3)), (5, .int (bI (decide (w ∈ gRem g)))), (4, .int (nI y)), (0, .ref mo), (1, .ref a), (2, .int (nI t))]) hx hb dX4_reckon_88 hl (k := 3) rfl (nI_inc w 1) (by decide) rfl (fun ls hl => ?_)
                refine lv_goto (tgt := 2) hx hb dX4_reckon_91 (by decide) ?_
                exact ih2 (w + 1) (upd fG3 w x) (by omega) (by omega) (fun j h => by unfold upd; split; rename_i e9; rw [e9]; exact hp87_0; exact hp2_1 j (by omega)) _ _ _ hSep hS (lv_sub hl [0, 4, 5, 6] rfl)
              refine b_if_eq (tgt := 85) hx hb dX4_reckon_78 (by decide) (fun c78 => ?_) (fun c78 => ?_)
              · refine lv_iload hx hb dX4_reckon_85 (lv_at hl 2 rfl) ?_
                exact L87 (nI y) (by unfold gI bnG; rw [c78, hp21_1]; rfl) _ _ _ hSep hS (lv_sub hl [0, 1, 2, 3, 4, 5, 6] rfl)
              · refine lv_iconst (v := (-1)) hx hb dX4_reckon_81 (by decide) ?_
                refine lv_goto (tgt := 87) hx hb dX4_reckon_82 (by decide) ?_
                exact L87 (-1) (by unfold gI bnG; rw [c78]; rfl) _ _ _ hSep hS (lv_sub hl [0, 1, 2, 3, 4, 5, 6] rfl)
            · have L58 : ∀ (x : Nat) , (x = gainW g w j) → ∀ (H : Heap) (locs : List Loc) (ls : Array Slot), Sep G.1 clA (Fz F s.heap.size) [pts mo (.inr (3, [.int fR, .ref aT, .int (nI zs), .ref aN, .ref aL, .ref aP, .ref aD, .int (nI ac), .ref aK, .ref aZ, .ref aG, .ref aB, .int (nI bl), .int bp, .ref aS, .int (nI tl)])), pts a (.inl (G.2.1 0, 89, .inl f)), pts aG (.inl (G.2.1 0, 18, .inl fG3))] H → va_S (Fz F s.heap.size) s.heap H locs → lv_has ls 7 [(6, .int (nI j)), (5, .int (bI (decide (w ∈ gRem g)))), (4, .int (nI y)), (3, .int (nI w)), (0, .ref mo), (1, .ref a), (2, .int (nI t))] → W p l e ({ frames := 2, cells := 0, slots := 0, locals := 63 } : Room) s m args below meth c H locs (0) (0) QQ (F0 m 58 ls [.int (nI x), .int (nI y)]) := by
                intro x hp58_0 H locs ls hSep hS hl
                refine n_iadd hx hb dX4_reckon_58 ?_
                refine lv_istore (lv' := [(4, .int (nI (y + x))), (6, .int (nI j)), (5, .int (bI (decide (w ∈ gRem g)))), (3, .int (nI w)), (0, .ref mo), (1, .ref a), (2, .int (nI t))]) hx hb dX4_reckon_59 hl (by decide) rfl (fun ls hl => ?_)
                refine lv_iinc (v := (nI (j + 1))) (lv' := [(6, .int (nI (j + 1))), (4, .int (nI (y + x))), (5, .int (bI (decide (w ∈ gRem g)))), (3, .int (nI w)), (0, .ref mo), (1, .ref a), (2, .int (nI t))]) hx hb dX4_reckon_61 hl (k := 1) rfl (nI_inc j 1) (by decide) rfl (fun ls hl => ?_)
                refine lv_goto (tgt := 21) hx hb dX4_reckon_64 (by decide) ?_
                exact ih21 (j + 1) (y + x) (by omega) (by omega) (by rw [hp21_1, hp58_0]; rfl) _ _ _ hSep hS (lv_sub hl [0, 2, 1, 3, 4, 5, 6] rfl)
              refine lv_iload hx hb dX4_reckon_27 (lv_at hl 2 rfl) ?_
              refine lv_aload_n hx hb dX4_reckon_29 rfl (lv_at hl 5 rfl) ?_
              refine lv_iload hx hb dX4_reckon_30 (lv_at hl 0 rfl) ?_
              have hFk_7 : ∀ q, Fz (fun _ => False) H.size q → (Fz F s.heap.size) q := fun q h => by rcases h with h | h; exact h.elim; exact Fz.new (Nat.le_trans hS.1 h)
              have hPk_7 : Sep G.1 clA (Fz (fun _ => False) H.size) [] H := sp_nil
              have hJk_7 := sp_nilJ (F := (fun _ => False)) hSep (fun _ => id) hFk_7
              refine c_i (va_runS (As := [.ref a, .int (nI j)]) (rest := [.int (nI y)]) ⟨hx, hb, hml, hown, hts⟩ (m_X4_isThere l G H.size a f g j (by first | assumption | omega) (by first | assumption | omega)) (va_cwS 2 hts (lw_S q1641 q1642 q44 q1643) rfl rfl rfl (by decide +kernel) ⟨Nat.le_of_ble_eq_true rfl, Nat.le_of_ble_eq_true rfl⟩) (sp_preS hE hS hFk_7 hPk_7 (hSep.cel (k := 1) rfl)) rfl rfl hl.1 rfl (lv_room (Nat.le_of_ble_eq_true rfl)) dX4_reckon_32 ⟨by first | exact Nat.le_of_ble_eq_true rfl | omega | (dsimp only; omega), by first | exact Nat.le_of_ble_eq_true rfl | omega | (dsimp only; omega)⟩) hS hFk_7 hJk_7 (fun r_8 u_9 H locs hpk_7 hSep hS hzk_7 => ?_)
              obtain rfl : r_8 = (bI (gThere g j)) := hpk_7
              refine W.cs (cells' := 0) (slots' := 0) rfl rfl ?_
              have hSep : Sep G.1 clA (Fz F s.heap.size) [pts mo (.inr (3, [.int fR, .ref aT, .int (nI zs), .ref aN, .ref aL, .ref aP, .ref aD, .int (nI ac), .ref aK, .ref aZ, .ref aG, .ref aB, .int (nI bl), .int bp, .ref aS, .int (nI tl)])), pts a (.inl (G.2.1 0, 89, .inl f)), pts aG (.inl (G.2.1 0, 18, .inl fG3))] H := hSep
              refine b_if_eq (tgt := 57) hx hb dX4_reckon_35 (by decide) (fun c35 => ?_) (fun c35 => ?_)
              · refine lv_iconst (v := (nI 0)) hx hb dX4_reckon_57 (by decide) ?_
                exact L58 0 (by unfold gainW; rw [if_neg]; rintro ⟨h1, h2, h3⟩; first | exact absurd (h1.symm.trans c35) (by decide) | exact absurd (h2.symm.trans c45) (by decide) | exact h3 (of_decide_eq_true c50)) _ _ _ hSep hS (lv_sub hl [0, 1, 2, 3, 4, 5, 6] rfl)
              · refine lv_aload_n hx hb dX4_reckon_38 rfl (lv_at hl 5 rfl) ?_
                refine lv_iload hx hb dX4_reckon_39 (lv_at hl 0 rfl) ?_
                refine lv_iload_n hx hb dX4_reckon_41 rfl (lv_at hl 3 rfl) ?_
                have hFk_10 : ∀ q, Fz (fun _ => False) H.size q → (Fz F s.heap.size) q := fun q h => by rcases h with h | h; exact h.elim; exact Fz.new (Nat.le_trans hS.1 h)
                have hPk_10 : Sep G.1 clA (Fz (fun _ => False) H.size) [] H := sp_nil
                have hJk_10 := sp_nilJ (F := (fun _ => False)) hSep (fun _ => id) hFk_10
                refine c_i (va_runS (As := [.ref a, .int (nI j), .int (nI w)]) (rest := [.int (nI y)]) ⟨hx, hb, hml, hown, hts⟩ (m_X4_likes l G H.size a f g j w (by first | assumption | omega) (by first | assumption | omega) (by first | assumption | omega)) (va_cwS 3 hts (lw_S q1648 q1649 q44 q1650) rfl rfl rfl (by decide +kernel) ⟨Nat.le_of_ble_eq_true rfl, Nat.le_of_ble_eq_true rfl⟩) (sp_preS hE hS hFk_10 hPk_10 (hSep.cel (k := 1) rfl)) rfl rfl hl.1 rfl (lv_room (Nat.le_of_ble_eq_true rfl)) dX4_reckon_42 ⟨by first | exact Nat.le_of_ble_eq_true rfl | omega | (dsimp only; omega), by first | exact Nat.le_of_ble_eq_true rfl | omega | (dsimp only; omega)⟩) hS hFk_10 hJk_10 (fun r_11 u_12 H locs hpk_10 hSep hS hzk_10 => ?_)
                obtain rfl : r_11 = (bI (bitI (g.1 (11 + j)) w)) := hpk_10
                refine W.cs (cells' := 0) (slots' := 0) rfl rfl ?_
                have hSep : Sep G.1 clA (Fz F s.heap.size) [pts mo (.inr (3, [.int fR, .ref aT, .int (nI zs), .ref aN, .ref aL, .ref aP, .ref aD, .int (nI ac), .ref aK, .ref aZ, .ref aG, .ref aB, .int (nI bl), .int bp, .ref aS, .int (nI tl)])), pts a (.inl (G.2.1 0, 89, .inl f)), pts aG (.inl (G.2.1 0, 18, .inl fG3))] H := hSep
                refine b_if_eq (tgt := 57) hx hb dX4_reckon_45 (by decide) (fun c45 => ?_) (fun c45 => ?_)
                · refine lv_iconst (v := (nI 0)) hx hb dX4_reckon_57 (by decide) ?_
                  exact L58 0 (by unfold gainW; rw [if_neg]; rintro ⟨h1, h2, h3⟩; first | exact absurd (h1.symm.trans c35) (by decide) | exact absurd (h2.symm.trans c45) (by decide) | exact h3 (of_decide_eq_true c50)) _ _ _ hSep hS (lv_sub hl [0, 1, 2, 3, 4, 5, 6] rfl)
                · refine lv_iload hx hb dX4_reckon_48 (lv_at hl 1 rfl) ?_
                  refine b_if_ne (tgt := 57) hx hb dX4_reckon_50 (by decide) (fun c50 => ?_) (fun c50 => ?_)
                  · refine lv_iconst (v := (nI 0)) hx hb dX4_reckon_57 (by decide) ?_
                    exact L58 0 (by unfold gainW; rw [if_neg]; rintro ⟨h1, h2, h3⟩; first | exact absurd (h1.symm.trans c35) (by decide) | exact absurd (h2.symm.trans c45) (by decide) | exact h3 (of_decide_eq_true c50)) _ _ _ hSep hS (lv_sub hl [0, 1, 2, 3, 4, 5, 6] rfl)
                  · refine lv_iconst (v := (nI 1)) hx hb dX4_reckon_53 (by decide) ?_
                    refine lv_goto (tgt := 58) hx hb dX4_reckon_54 (by decide) ?_
                    exact L58 1 (by unfold gainW; rw [if_pos ⟨c35, c45, of_decide_eq_false c50⟩]) _ _ _ hSep hS (lv_sub hl [0, 1, 2, 3, 4, 5, 6] rfl)
        exact L21 (3 - 0 + 1) 0 0 (Nat.lt_succ_self _) (by omega) (rfl) _ _ _ hSep hS (lv_sub hl [0, 1, 2, 3, 4, 5, 6] rfl)
  exact L2 (18 - 0 + 1) 0 fG (Nat.lt_succ_self _) (Nat.zero_le _) (fun j h => absurd h (Nat.not_lt_zero _)) _ _ _ hSep hS (lv_sub hl [0, 1, 2, 3] rfl)

set_option maxHeartbeats 600000 in
set_option maxRecDepth 100000 in
theorem m_X4_tryAll (l : Launch) (G : EVT) (F : Nat → Prop) (sz : Nat) (mo : Nat) (fR : Int32) (aT : Nat) (zs : Nat) (aN : Nat) (aL : Nat) (aP : Nat) (aD : Nat) (ac : Nat) (aK : Nat) (aZ : Nat) (aG : Nat) (aB : Nat) (bl : Nat) (bp : Int32) (aS : Nat) (tl : Nat) (q1 : Option Nat) (n1 : Nat) (v1 : Nat) (p1 : Option Nat) (o1 : Option Nat) (bn : Nat → Bool) (gv : Nat → Nat) (S0 : List Nat → Prop) (P1 : Nat) (b1 : List Nat) (fS : Nat → Int32) (fB : Nat → Int32) (fG : Nat → Int32) (hq : qOk q1) (hg : GT n1 v1 p1 o1) (hG : ∀ w, w < 18 → fG w = gI bn gv w) (hv : ∀ w, gv w ≤ 3) (hB : BestOn (smS gv) S0 P1 b1) (hS0 : ∀ s, S0 s → okS bn s) (hbb : Pre fB b1) : Met l yX4_tryAll (ws_ yX4_tryAll cX4_tryAll 10 none) ({ frames := 1, cells := 0, slots := 0, locals := 22 } : Room) (SPc G F sz [.ref mo, .int (oI q1), .int (nI n1), .int (nI v1), .int (oI p1), .int (oI o1)] [pts mo (.inr (3, [.int fR, .ref aT, .int (nI zs), .ref aN, .ref aL, .ref aP, .ref aD, .int (nI ac), .ref aK, .ref aZ, .ref aG, .ref aB, .int (nI b1.length), .int (ptI P1), .ref aS, .int (nI tl)])), pts aS (.inl (G.2.1 0, 5, .inl fS)), pts aG (.inl (G.2.1 0, 18, .inl fG)), pts aB (.inl (G.2.1 0, 5, .inl fB))] (fun _ => True)) (SQv G F sz (fun (u : Nat × (List Nat) × (Nat → Int32) × (Nat → Int32) × Nat) => BestOn (smS gv) (fun s => S0 s ∨ (s = (five q1 n1 v1 p1 o1) ∧ okS bn s)) u.1 u.2.1 ∧ Pre u.2.2.2.1 u.2.1) (fun (u : Nat × (List Nat) × (Nat → Int32) × (Nat → Int32) × Nat) => [pts mo (.inr (3, [.int fR, .ref aT, .int (nI zs), .ref aN, .ref aL, .ref aP, .ref aD, .int (nI ac), .ref aK, .ref aZ, .ref aG, .ref aB, .int (nI u.2.1.length), .int (ptI u.1), .ref aS, .int (nI u.2.2.2.2)])), pts aS (.inl (G.2.1 0, 5, .inl u.2.2.1)), pts aG (.inl (G.2.1 0, 18, .inl fG)), pts aB (.inl (G.2.1 0, 5, .inl u.2.2.2.1))])) (0) (0) (Fz F sz) := by
  refine sp_of RX4 (by decide) rfl (Nat.le_of_ble_eq_true rfl) ?_
  intro p e s m args below meth c ls QQ hx hb hr hts hown hlocks hml hnm hsz hSep hΦ hE hS hl hQ
  subst hsz
  have hK := hE.1
  have hl : lv_has ls 10 [(0, .ref mo), (1, .int (oI q1)), (2, .int (nI n1)), (3, .int (nI v1)), (4, .int (oI p1)), (5, .int (oI o1))] := hl
  obtain ⟨hi1, hi2, hi3⟩ := hB.info hS0 hv
  have hn18 : n1 < 18 := hg.1.2
  have hv18 : v1 < 18 := hg.2.1.2
  refine lv_aload_n hx hb dX4_tryAll_0 rfl (lv_at hl 0 rfl) ?_
  refine lv_iconst (v := (nI 0)) hx hb dX4_tryAll_1 (by decide) ?_
  refine s_put (ci := 3) (v := .int (nI 0)) (ty := .int) (C := RX4) (T := TX4) (N := 16) hx hb hts in_X4 tyX4 tyX4_ok nmX4 hown hK hSep hS 0 rfl rfl 15 (by decide) (hts _ q1488) (fun _ h9 => h9) rfl (by decide +kernel) rfl rfl (Nat.le_of_ble_eq_true rfl) dX4_tryAll_2 (fun H locs hSep hS => ?_)
  have hSep : Sep G.1 clA (Fz F s.heap.size) [pts mo (.inr (3, [.int fR, .ref aT, .int (nI zs), .ref aN, .ref aL, .ref aP, .ref aD, .int (nI ac), .ref aK, .ref aZ, .ref aG, .ref aB, .int (nI b1.length), .int (ptI P1), .ref aS, .int (nI 0)])), pts aS (.inl (G.2.1 0, 5, .inl fS)), pts aG (.inl (G.2.1 0, 18, .inl fG)), pts aB (.inl (G.2.1 0, 5, .inl fB))] H := hSep
  refine lv_iconst (v := (nI 0)) hx hb dX4_tryAll_5 (by decide) ?_
  refine lv_istore (lv' := [(6, .int (nI 0)), (0, .ref mo), (1, .int (oI q1)), (2, .int (nI n1)), (3, .int (nI v1)), (4, .int (oI p1)), (5, .int (oI o1))]) hx hb dX4_tryAll_6 hl (by decide) rfl (fun ls hl => ?_)
  have L29 : ∀ (may0 : Bool) , (may0 = decide (some n1 ≠ o1 ∧ (q1 ≠ p1 ∨ q1 = none))) → ∀ (H : Heap) (locs : List Loc) (ls : Array Slot), Sep G.1 clA (Fz F s.heap.size) [pts mo (.inr (3, [.int fR, .ref aT, .int (nI zs), .ref aN, .ref aL, .ref aP, .ref aD, .int (nI ac), .ref aK, .ref aZ, .ref aG, .ref aB, .int (nI b1.length), .int (ptI P1), .ref aS, .int (nI 0)])), pts aS (.inl (G.2.1 0, 5, .inl fS)), pts aG (.inl (G.2.1 0, 18, .inl fG)), pts aB (.inl (G.2.1 0, 5, .inl fB))] H → va_S (Fz F s.heap.size) s.heap H locs → lv_has ls 10 [(6, .int (nI 0)), (0, .ref mo), (1, .int (oI q1)), (2, .int (nI n1)), (3, .int (nI v1)), (4, .int (oI p1)), (5, .int (oI o1))] → W p l e ({ frames := 1, cells := 0, slots := 0, locals := 22 } : Room) s m args below meth c H locs (0) (0) QQ (F0 m 29 ls [.int (bI may0)]) := by
    intro may0 hp29_0 H locs ls hSep hS hl
    refine lv_istore (lv' := [(7, .int (bI may0)), (6, .int (nI 0)), (0, .ref mo), (1, .int (oI q1)), (2, .int (nI n1)), (3, .int (nI v1)), (4, .int (oI p1)), (5, .int (oI o1))]) hx hb dX4_tryAll_29 hl (by decide) rfl (fun ls hl => ?_)
    refine lv_iconst (v := (nI 0)) hx hb dX4_tryAll_31 (by decide) ?_
    refine lv_istore (lv' := [(8, .int (nI 0)), (7, .int (bI may0)), (6, .int (nI 0)), (0, .ref mo), (1, .int (oI q1)), (2, .int (nI n1)), (3, .int (nI v1)), (4, .int (oI p1)), (5, .int (oI o1))]) hx hb dX4_tryAll_32 hl (by decide) rfl (fun ls hl => ?_)
    have L34 : ∀ (fu : Nat) (k : Nat) (w6 : Int32) (may1 : Bool) (t2 : Nat) (fS2 : Nat → Int32) , 5 - k < fu → (k ≤ 5) → (Pre fS2 (tr5 q1 n1 v1 p1 o1 k)) → (t2 = (tr5 q1 n1 v1 p1 o1 k).length) → (may1 = (may0 && (tr5 q1 n1 v1 p1 o1 k).all (fun w => !bn w))) → (may1 = true → w6 = nI (smS gv (tr5 q1 n1 v1 p1 o1 k))) → ∀ (H : Heap) (locs : List Loc) (ls : Array Slot), Sep G.1 clA (Fz F s.heap.size) [pts mo (.inr (3, [.int fR, .ref aT, .int (nI zs), .ref aN, .ref aL, .ref aP, .ref aD, .int (nI ac), .ref aK, .ref aZ, .ref aG, .ref aB, .int (nI b1.length), .int (ptI P1), .ref aS, .int (nI t2)])), pts aS (.inl (G.2.1 0, 5, .inl fS2)), pts aG (.inl (G.2.1 0, 18, .inl fG)), pts aB (.inl (G.2.1 0, 5, .inl fB))] H → va_S (Fz F s.heap.size) s.heap H locs → lv_has ls 10 [(8, .int (nI k)), (7, .int (bI may1)), (6, .int w6), (0, .ref mo), (1, .int (oI q1)), (2, .int (nI n1)), (3, .int (nI v1)), (4, .int (oI p1)), (5, .int (oI o1))] → W p l e ({ frames := 1, cells := 0, slots := 0, locals := 22 } : Room) s m args below meth c H locs (0) (0) QQ (F0 m 34 ls []) := by
      intro fu
      induction fu with
      | zero => intro k w6 may1 t2 fS2 hm; exact absurd hm (Nat.not_lt_zero _)
      | succ fu ih34 =>
        intro k w6 may1 t2 fS2 hm34 hp34_0 hp34_1 hp34_2 hp34_3 hp34_4 H locs ls hSep hS hl
        refine lv_iload hx hb dX4_tryAll_34 (lv_at hl 0 rfl) ?_
        refine lv_iconst (v := (nI 5)) hx hb dX4_tryAll_36 (by decide) ?_
        refine n_icmp_ge (tgt := 135) hx hb (by omega) (by omega) dX4_tryAll_37 (by decide) (fun c37 => ?_) (fun c37 => ?_)
        · obtain rfl : k = 5 := by omega
          rw [tr5_5] at hp34_1 hp34_2 hp34_3 hp34_4
          subst hp34_2
          refine lv_iload hx hb dX4_tryAll_135 (lv_at hl 1 rfl) ?_
          refine b_if_eq (tgt := 195) hx hb dX4_tryAll_137 (by decide) (fun c137 => ?_) (fun c137 => ?_)
          · rw [hQ]
            exact r_v (u := (P1, b1, fS2, fB, (five q1 n1 v1 p1 o1).length)) hx hb hr (⟨(hB.add (bn := bn)).1 (fun h9 => by have h8 := (okS_five hq hg).mp h9; rw [← hp29_0] at h8; rw [hp34_3, h8] at c137; cases c137), hbb⟩) hSep hS (by first | exact Nat.le_of_ble_eq_true rfl | omega | (dsimp only; omega)) (by first | exact Nat.le_of_ble_eq_true rfl | omega | (dsimp only; omega)) dX4_tryAll_195 hlocks
          · have h6 := hp34_4 c137
            subst h6
            have hok : okS bn (five q1 n1 v1 p1 o1) := (okS_five hq hg).mpr (by rw [← hp29_0, ← hp34_3]; exact c137)
            have hfl := five_len q1 n1 v1 p1 o1
            have hsl := smS_le (gv := gv) (s := (five q1 n1 v1 p1 o1)) fun w _ => hv w
            refine lv_aload_n hx hb dX4_tryAll_140 rfl (lv_at hl 3 rfl) ?_
            refine lv_iload hx hb dX4_tryAll_141 (lv_at hl 2 rfl) ?_
            have hFk_1 : ∀ q, Fz (fun _ => False) H.size q → (Fz F s.heap.size) q := fun q h => by rcases h with h | h; exact h.elim; exact Fz.new (Nat.le_trans hS.1 h)
            have hPk_1 : Sep G.1 clA (Fz (fun _ => False) H.size) [] H := sp_nil
            have hJk_1 := sp_nilJ (F := (fun _ => False)) hSep (fun _ => id) hFk_1
            refine c_i (va_runV (As := [.int (nI (smS gv (five q1 n1 v1 p1 o1)))]) (rest := []) ⟨hx, hb, hml, hown, hts⟩ (m_X4_isBetter l G H.size mo fR aT zs aN aL aP aD ac aK aZ aG aB b1.length (ptI P1) aS ((five q1 n1 v1 p1 o1).length) fS2 fB (smS gv (five q1 n1 v1 p1 o1)) (five q1 n1 v1 p1 o1) b1 P1 (hp34_1) (rfl) (hbb) (rfl) (rfl) (by first | assumption | omega) (by first | assumption | omega) (by first | assumption | omega) (by first | assumption | omega) (hok.1.2.2) (hi3)) (cwV 1 hts (lw_V q1698 q1700 qs34 q44 q1701) rfl rfl rfl (by decide +kernel) ⟨Nat.le_of_ble_eq_true rfl, Nat.le_of_ble_eq_true rfl⟩) (sp_preV hE hS hFk_1 hPk_1 (va_P.app (hSep.cel (k := 0) rfl) (va_P.app (hSep.cel (k := 1) rfl) (hSep.cel (k := 3) rfl))) (sp_recv (ci := 3) hK (hSep.cel (k := 0) rfl) rfl)) rfl rfl hl.1 rfl (lv_room (Nat.le_of_ble_eq_true rfl)) dX4_tryAll_143 ⟨by first | exact Nat.le_of_ble_eq_true rfl | omega | (dsimp only; omega), by first | exact Nat.le_of_ble_eq_true rfl | omega | (dsimp only; omega)⟩) hS hFk_1 hJk_1 (fun r_2 u_3 H locs hpk_1 hSep hS hzk_1 => ?_)
            obtain rfl : r_2 = (bI (isBetterB (smS gv (five q1 n1 v1 p1 o1)) (five q1 n1 v1 p1 o1) P1 b1)) := hpk_1
            refine W.cs (cells' := 0) (slots' := 0) rfl rfl ?_
            have hSep : Sep G.1 clA (Fz F s.heap.size) [pts mo (.inr (3, [.int fR, .ref aT, .int (nI zs), .ref aN, .ref aL, .ref aP, .ref aD, .int (nI ac), .ref aK, .ref aZ, .ref aG, .ref aB, .int (nI b1.length), .int (ptI P1), .ref aS, .int (nI ((five q1 n1 v1 p1 o1).length))])), pts aS (.inl (G.2.1 0, 5, .inl fS2)), pts aG (.inl (G.2.1 0, 18, .inl fG)), pts aB (.inl (G.2.1 0, 5, .inl fB))] H := hSep
            refine b_if_eq (tgt := 195) hx hb dX4_tryAll_146 (by decide) (fun c146 => ?_) (fun c146 => ?_)
            · rw [hQ]
              exact r_v (u := (P1, b1, fS2, fB, (five q1 n1 v1 p1 o1).length)) hx hb hr (⟨(hB.add (bn := bn)).2.2 hok c146, hbb⟩) hSep hS (by first | exact Nat.le_of_ble_eq_true rfl | omega | (dsimp only; omega)) (by first | exact Nat.le_of_ble_eq_true rfl | omega | (dsimp only; omega)) dX4_tryAll_195 hlocks
            · refine lv_aload_n hx hb dX4_tryAll_149 rfl (lv_at hl 3 rfl) ?_
              refine lv_iload hx hb dX4_tryAll_150 (lv_at hl 2 rfl) ?_
              refine n_eq (y := (ptI (smS gv (five q1 n1 v1 p1 o1) + 1))) ((ptI_s _).symm) ?_
              refine s_put (ci := 3) (v := .int (ptI (smS gv (five q1 n1 v1 p1 o1) + 1))) (ty := .int) (C := RX4) (T := TX4) (N := 16) hx hb hts in_X4 tyX4 tyX4_ok nmX4 hown hK hSep hS 0 rfl rfl 13 (by decide) (hts _ q1486) (fun _ h9 => h9) rfl (by decide +kernel) rfl rfl (Nat.le_of_ble_eq_true rfl) dX4_tryAll_152 (fun H locs hSep hS => ?_)
              have hSep : Sep G.1 clA (Fz F s.heap.size) [pts mo (.inr (3, [.int fR, .ref aT, .int (nI zs), .ref aN, .ref aL, .ref aP, .ref aD, .int (nI ac), .ref aK, .ref aZ, .ref aG, .ref aB, .int (nI b1.length), .int (ptI (smS gv (five q1 n1 v1 p1 o1) + 1)), .ref aS, .int (nI ((five q1 n1 v1 p1 o1).length))])), pts aS (.inl (G.2.1 0, 5, .inl fS2)), pts aG (.inl (G.2.1 0, 18, .inl fG)), pts aB (.inl (G.2.1 0, 5, .inl fB))] H := hSep
              refine lv_aload_n hx hb dX4_tryAll_155 rfl (lv_at hl 3 rfl) ?_
              refine lv_aload_n hx hb dX4_tryAll_156 rfl (lv_at hl 3 rfl) ?_
              refine va_get (D := G.1) (ci := 3) (v := .int (nI ((five q1 n1 v1 p1 o1).length))) (C := RX4) (T := TX4) (N := 16) hx hb hts in_X4 hown hK (hSep.cel (k := 0) rfl) 0 rfl rfl 15 (by decide) (hts _ q1488) (fun _ h9 => h9) rfl dX4_tryAll_157 ?_
              refine s_put (ci := 3) (v := .int (nI ((five q1 n1 v1 p1 o1).length))) (ty := .int) (C := RX4) (T := TX4) (N := 16) hx hb hts in_X4 tyX4 tyX4_ok nmX4 hown hK hSep hS 0 rfl rfl 12 (by decide) (hts _ q1485) (fun _ h9 => h9) rfl (by decide +kernel) rfl rfl (Nat.le_of_ble_eq_true rfl) dX4_tryAll_160 (fun H locs hSep hS => ?_)
              have hSep : Sep G.1 clA (Fz F s.heap.size) [pts mo (.inr (3, [.int fR, .ref aT, .int (nI zs), .ref aN, .ref aL, .ref aP, .ref aD, .int (nI ac), .ref aK, .ref aZ, .ref aG, .ref aB, .int (nI ((five q1 n1 v1 p1 o1).length)), .int (ptI (smS gv (five q1 n1 v1 p1 o1) + 1)), .ref aS, .int (nI ((five q1 n1 v1 p1 o1).length))])), pts aS (.inl (G.2.1 0, 5, .inl fS2)), pts aG (.inl (G.2.1 0, 18, .inl fG)), pts aB (.inl (G.2.1 0, 5, .inl fB))] H := hSep
              refine lv_iconst (v := (nI 0)) hx hb dX4_tryAll_163 (by decide) ?_
              refine lv_istore (lv' := [(8, .int (nI 0)), (7, .int (bI may1)), (6, .int (nI (smS gv (five q1 n1 v1 p1 o1)))), (0, .ref mo), (1, .int (oI q1)), (2, .int (nI n1)), (3, .int (nI v1)), (4, .int (oI p1)), (5, .int (oI o1))]) hx hb dX4_tryAll_164 hl (by decide) rfl (fun ls hl => ?_)
              have L166 : ∀ (fu : Nat) (k2 : Nat) (fB2 : Nat → Int32) , (five q1 n1 v1 p1 o1).length - k2 < fu → (k2 ≤ (five q1 n1 v1 p1 o1).length) → (∀ j, j < k2 → fB2 j = nI ((five q1 n1 v1 p1 o1).getD j 0)) → ∀ (H : Heap) (locs : List Loc) (ls : Array Slot), Sep G.1 clA (Fz F s.heap.size) [pts mo (.inr (3, [.int fR, .ref aT, .int (nI zs), .ref aN, .ref aL, .ref aP, .ref aD, .int (nI ac), .ref aK, .ref aZ, .ref aG, .ref aB, .int (nI ((five q1 n1 v1 p1 o1).length)), .int (ptI (smS gv (five q1 n1 v1 p1 o1) + 1)), .ref aS, .int (nI ((five q1 n1 v1 p1 o1).length))])), pts aS (.inl (G.2.1 0, 5, .inl fS2)), pts aG (.inl (G.2.1 0, 18, .inl fG)), pts aB (.inl (G.2.1 0, 5, .inl fB2))] H → va_S (Fz F s.heap.size) s.heap H locs → lv_has ls 10 [(8, .int (nI k2)), (7, .int (bI may1)), (6, .int (nI (smS gv (five q1 n1 v1 p1 o1)))), (0, .ref mo), (1, .int (oI q1)), (2, .int (nI n1)), (3, .int (nI v1)), (4, .int (oI p1)), (5, .int (oI o1))] → W p l e ({ frames := 1, cells := 0, slots := 0, locals := 22 } : Room) s m args below meth c H locs (0) (0) QQ (F0 m 166 ls []) := by
                intro fu
                induction fu with
                | zero => intro k2 fB2 hm; exact absurd hm (Nat.not_lt_zero _)
                | succ fu ih166 =>
                  intro k2 fB2 hm166 hp166_0 hp166_1 H locs ls hSep hS hl
                  refine lv_iload hx hb dX4_tryAll_166 (lv_at hl 0 rfl) ?_
                  refine lv_aload_n hx hb dX4_tryAll_168 rfl (lv_at hl 3 rfl) ?_
                  refine va_get (D := G.1) (ci := 3) (v := .int (nI ((five q1 n1 v1 p1 o1).length))) (C := RX4) (T := TX4) (N := 16) hx hb hts in_X4 hown hK (hSep.cel (k := 0) rfl) 0 rfl rfl 15 (by decide) (hts _ q1488) (fun _ h9 => h9) rfl dX4_tryAll_169 ?_
                  refine n_icmp_ge (tgt := 195) hx hb (by omega) (by omega) dX4_tryAll_172 (by decide) (fun c172 => ?_) (fun c172 => ?_)
                  · rw [hQ]
                    exact r_v (u := (smS gv (five q1 n1 v1 p1 o1) + 1, (five q1 n1 v1 p1 o1), fS2, fB2, (five q1 n1 v1 p1 o1).length)) hx hb hr (⟨(hB.add (bn := bn)).2.1 hok c146, (show ∀ j, j < (five q1 n1 v1 p1 o1).length → fB2 j = nI ((five q1 n1 v1 p1 o1).getD j 0) from fun j h => hp166_1 j (by omega))⟩) hSep hS (by first | exact Nat.le_of_ble_eq_true rfl | omega | (dsimp only; omega)) (by first | exact Nat.le_of_ble_eq_true rfl | omega | (dsimp only; omega)) dX4_tryAll_195 hlocks
                  · refine lv_aload_n hx hb dX4_tryAll_175 rfl (lv_at hl 3 rfl) ?_
                    refine va_get (D := G.1) (ci := 3) (v := .ref aB) (C := RX4) (T := TX4) (N := 16) hx hb hts in_X4 hown hK (hSep.cel (k := 0) rfl) 0 rfl rfl 11 (by decide) (hts _ q1484) (fun _ h9 => h9) rfl dX4_tryAll_176 ?_
                    refine lv_iload hx hb dX4_tryAll_179 (lv_at hl 0 rfl) ?_
                    refine lv_aload_n hx hb dX4_tryAll_181 rfl (lv_at hl 3 rfl) ?_
                    refine va_get (D := G.1) (ci := 3) (v := .ref aS) (C := RX4) (T := TX4) (N := 16) hx hb hts in_X4 hown hK (hSep.cel (k := 0) rfl) 0 rfl rfl 14 (by decide) (hts _ q1487) (fun _ h9 => h9) rfl dX4_tryAll_182 ?_
                    refine lv_iload hx hb dX4_tryAll_185 (lv_at hl 0 rfl) ?_
                    refine n_iald (i := k2) hx hb hK (hSep.cel (k := 1) rfl) 0 rfl (by omega) (by omega) dX4_tryAll_187 ?_
                    refine n_eq (y := (nI ((five q1 n1 v1 p1 o1).getD k2 0))) (hp34_1 k2 (by omega)) ?_
                    refine n_iast (i := k2) (x := (nI ((five q1 n1 v1 p1 o1).getD k2 0))) (y := (nI ((five q1 n1 v1 p1 o1).getD k2 0))) hx hb hK hSep hS 3 rfl 0 rfl (by omega) (by omega) (rfl) dX4_tryAll_188 (fun H locs hSep hS => ?_)
                    have hSep : Sep G.1 clA (Fz F s.heap.size) [pts mo (.inr (3, [.int fR, .ref aT, .int (nI zs), .ref aN, .ref aL, .ref aP, .ref aD, .int (nI ac), .ref aK, .ref aZ, .ref aG, .ref aB, .int (nI ((five q1 n1 v1 p1 o1).length)), .int (ptI (smS gv (five q1 n1 v1 p1 o1) + 1)), .ref aS, .int (nI ((five q1 n1 v1 p1 o1).length))])), pts aS (.inl (G.2.1 0, 5, .inl fS2)), pts aG (.inl (G.2.1 0, 18, .inl fG)), pts aB (.inl (G.2.1 0, 5, .inl (upd fB2 k2 (nI ((five q1 n1 v1 p1 o1).getD k2 0)))))] H := hSep
                    refine lv_iinc (v := (nI (k2 + 1))) (lv' := [(8, .int (nI (k2 + 1))), (7, .int (bI may1)), (6, .int (nI (smS gv (five q1 n1 v1 p1 o1)))), (0, .ref mo), (1, .int (oI q1)), (2, .int (nI n1)), (3, .int (nI v1)), (4, .int (oI p1)), (5, .int (oI o1))]) hx hb dX4_tryAll_189 hl (k := 0) rfl (nI_inc k2 1) (by decide) rfl (fun ls hl => ?_)
                    refine lv_goto (tgt := 166) hx hb dX4_tryAll_192 (by decide) ?_
                    exact ih166 (k2 + 1) (upd fB2 k2 (nI ((five q1 n1 v1 p1 o1).getD k2 0))) (by omega) (by omega) (fun j h => by unfold upd; split; rename_i e9; rw [e9]; exact hp166_1 j (by omega)) _ _ _ hSep hS (lv_sub hl [0, 1, 2, 3, 4, 5, 6, 7, 8] rfl)
              exact L166 ((five q1 n1 v1 p1 o1).length - 0 + 1) 0 fB (Nat.lt_succ_self _) (Nat.zero_le _) (fun j h => absurd h (Nat.not_lt_zero _)) _ _ _ hSep hS (lv_sub hl [0, 1, 2, 3, 4, 5, 6, 7, 8] rfl)
        · have L82 : ∀ (x : Int32) , (x = oI ((pl5 q1 n1 v1 p1 o1).getD k none)) → ∀ (H : Heap) (locs : List Loc) (ls : Array Slot), Sep G.1 clA (Fz F s.heap.size) [pts mo (.inr (3, [.int fR, .ref aT, .int (nI zs), .ref aN, .ref aL, .ref aP, .ref aD, .int (nI ac), .ref aK, .ref aZ, .ref aG, .ref aB, .int (nI b1.length), .int (ptI P1), .ref aS, .int (nI t2)])), pts aS (.inl (G.2.1 0, 5, .inl fS2)), pts aG (.inl (G.2.1 0, 18, .inl fG)), pts aB (.inl (G.2.1 0, 5, .inl fB))] H → va_S (Fz F s.heap.size) s.heap H locs → lv_has ls 10 [(8, .int (nI k)), (7, .int (bI may1)), (6, .int w6), (0, .ref mo), (1, .int (oI q1)), (2, .int (nI n1)), (3, .int (nI v1)), (4, .int (oI p1)), (5, .int (oI o1))] → W p l e ({ frames := 1, cells := 0, slots := 0, locals := 22 } : Room) s m args below meth c H locs (0) (0) QQ (F0 m 82 ls [.int x]) := by
            intro x hp82_0 H locs ls hSep hS hl
            refine lv_istore (lv' := [(9, .int x), (8, .int (nI k)), (7, .int (bI may1)), (6, .int w6), (0, .ref mo), (1, .int (oI q1)), (2, .int (nI n1)), (3, .int (nI v1)), (4, .int (oI p1)), (5, .int (oI o1))]) hx hb dX4_tryAll_82 hl (by decide) rfl (fun ls hl => ?_)
            refine lv_iload hx hb dX4_tryAll_84 (lv_at hl 0 rfl) ?_
            refine lv_if_lt (tgt := 129) hx hb dX4_tryAll_86 (by decide) (fun c86 => ?_) (fun c86 => ?_)
            · have hn9 : ((pl5 q1 n1 v1 p1 o1).getD k none) = none := by
                  cases h9 : ((pl5 q1 n1 v1 p1 o1).getD k none) with
                  | none => rfl
                  | some w => exact absurd c86 (by rw [hp82_0, h9]; exact nI_pos (by have := pl5_lt hq hg h9; omega))
              refine lv_iinc (v := (nI (k + 1))) (lv' := [(8, .int (nI (k + 1))), (9, .int x), (7, .int (bI may1)), (6, .int w6), (0, .ref mo), (1, .int (oI q1)), (2, .int (nI n1)), (3, .int (nI v1)), (4, .int (oI p1)), (5, .int (oI o1))]) hx hb dX4_tryAll_129 hl (k := 1) rfl (nI_inc k 1) (by decide) rfl (fun ls hl => ?_)
              refine lv_goto (tgt := 34) hx hb dX4_tryAll_132 (by decide) ?_
              exact ih34 (k + 1) w6 may1 t2 fS2 (by omega) (by omega) (by rw [tr5_s _ _ _ _ _ (by omega)]; first | (rw [hn9, opL, List.append_nil]; exact hp34_1) | (rw [hw9, opL]; exact hp34_1.push hp34_2)) (by rw [tr5_s _ _ _ _ _ (by omega)]; first | (rw [hn9, opL, List.append_nil]; exact hp34_2) | (rw [hw9, opL, List.length_append, hp34_2]; rfl)) (by rw [tr5_s _ _ _ _ _ (by omega)]; first | (rw [hn9, opL, List.append_nil]; exact hp34_3) | (rw [hw9, opL, hp115_0, hp34_3, List.all_append]; simp [Bool.and_assoc])) (fun h9 => by rw [tr5_s _ _ _ _ _ (by omega)]; first | (rw [hn9, opL, List.append_nil]; exact hp34_4 h9) | (rw [hw9, opL, smS_app, ← nI_add]; rw [hp115_0, Bool.and_eq_true] at h9; rw [hp34_4 h9.1]; unfold gI; rw [if_neg (by have := h9.2; simp at this; simp [this])]; simp [smS])) _ _ _ hSep hS (lv_sub hl [0, 2, 3, 4, 5, 6, 7, 8, 9] rfl)
            · obtain ⟨w9, hw9⟩ : ∃ w9, ((pl5 q1 n1 v1 p1 o1).getD k none) = some w9 := by
                  cases h9 : ((pl5 q1 n1 v1 p1 o1).getD k none) with
                  | none => exact absurd (by rw [hp82_0, h9]; decide) c86
                  | some w => exact ⟨w, rfl⟩
              have hx9 : x = nI w9 := by rw [hp82_0, hw9]; rfl
              subst hx9
              have hw18 : w9 < 18 := pl5_lt hq hg hw9
              have ht5 := tr5_len q1 n1 v1 p1 o1 k (by omega)
              refine lv_aload_n hx hb dX4_tryAll_89 rfl (lv_at hl 4 rfl) ?_
              refine lv_iload hx hb dX4_tryAll_90 (lv_at hl 0 rfl) ?_
              obtain ⟨Fk_4, hFk_4, hPk_4, hJk_4⟩ := hSep.cut (Pc := [pts mo (.inr (3, [.int fR, .ref aT, .int (nI zs), .ref aN, .ref aL, .ref aP, .ref aD, .int (nI ac), .ref aK, .ref aZ, .ref aG, .ref aB, .int (nI b1.length), .int (ptI P1), .ref aS, .int (nI t2)])), pts aS (.inl (G.2.1 0, 5, .inl fS2))]) (Pr := [pts aG (.inl (G.2.1 0, 18, .inl fG)), pts aB (.inl (G.2.1 0, 5, .inl fB))]) (fun q h => Fz.new (Nat.le_trans hS.1 h)) [0, 1] [2, 3] rfl rfl rfl rfl (by decide)
              refine c_v (va_runV (As := [.int (nI w9)]) (rest := []) ⟨hx, hb, hml, hown, hts⟩ (m_X4_tryWord l G Fk_4 H.size mo fR aT zs aN aL aP aD ac aK aZ aG aB b1.length (ptI P1) aS t2 w9 fS2 (by omega)) (cwV 1 hts (lw_V q1555 q1557 qs23 q44 q1558) rfl rfl rfl (by decide +kernel) ⟨Nat.le_of_ble_eq_true rfl, Nat.le_of_ble_eq_true rfl⟩) (sp_preV hE hS hFk_4 hPk_4 trivial (sp_recv (ci := 3) hK (hSep.cel (k := 0) rfl) rfl)) rfl rfl hl.1 rfl (lv_room (Nat.le_of_ble_eq_true rfl)) dX4_tryAll_92 ⟨by first | exact Nat.le_of_ble_eq_true rfl | omega | (dsimp only; omega), by first | exact Nat.le_of_ble_eq_true rfl | omega | (dsimp only; omega)⟩) hS hFk_4 hJk_4 (fun u_6 H locs hpk_4 hSep hS hzk_4 => ?_)
              refine W.cs (cells' := 0) (slots' := 0) rfl rfl ?_
              have hSep : Sep G.1 clA (Fz F s.heap.size) [pts aG (.inl (G.2.1 0, 18, .inl fG)), pts aB (.inl (G.2.1 0, 5, .inl fB)), pts mo (.inr (3, [.int fR, .ref aT, .int (nI zs), .ref aN, .ref aL, .ref aP, .ref aD, .int (nI ac), .ref aK, .ref aZ, .ref aG, .ref aB, .int (nI b1.length), .int (ptI P1), .ref aS, .int (nI (t2 + 1))])), pts aS (.inl (G.2.1 0, 5, .inl (upd fS2 t2 (nI w9))))] H := hSep
              have L115 : ∀ (may2 : Bool) , (may2 = (may1 && !bn w9)) → ∀ (H : Heap) (locs : List Loc) (ls : Array Slot), Sep G.1 clA (Fz F s.heap.size) [pts aG (.inl (G.2.1 0, 18, .inl fG)), pts aB (.inl (G.2.1 0, 5, .inl fB)), pts mo (.inr (3, [.int fR, .ref aT, .int (nI zs), .ref aN, .ref aL, .ref aP, .ref aD, .int (nI ac), .ref aK, .ref aZ, .ref aG, .ref aB, .int (nI b1.length), .int (ptI P1), .ref aS, .int (nI (t2 + 1))])), pts aS (.inl (G.2.1 0, 5, .inl (upd fS2 t2 (nI w9))))] H → va_S (Fz F s.heap.size) s.heap H locs → lv_has ls 10 [(9, .int (nI w9)), (8, .int (nI k)), (7, .int (bI may1)), (6, .int w6), (0, .ref mo), (1, .int (oI q1)), (2, .int (nI n1)), (3, .int (nI v1)), (4, .int (oI p1)), (5, .int (oI o1))] → W p l e ({ frames := 1, cells := 0, slots := 0, locals := 22 } : Room) s m args below meth c H locs (0) (0) QQ (F0 m 115 ls [.int (bI may2)]) := by
                intro may2 hp115_0 H locs ls hSep hS hl
                refine lv_istore (lv' := [(7, .int (bI may2)), (9, .int (nI w9)), (8, .int (nI k)), (6, .int w6), (0, .ref mo), (1, .int (oI q1)), (2, .int (nI n1)), (3, .int (nI v1)), (4, .int (oI p1)), (5, .int (oI o1))]) hx hb dX4_tryAll_115 hl (by decide) rfl (fun ls hl => ?_)
                refine lv_iload hx hb dX4_tryAll_117 (lv_at hl 3 rfl) ?_
                refine lv_aload_n hx hb dX4_tryAll_119 rfl (lv_at hl 4 rfl) ?_
                refine va_get (D := G.1) (ci := 3) (v := .ref aG) (C := RX4) (T := TX4) (N := 16) hx hb hts in_X4 hown hK (hSep.cel (k := 2) rfl) 0 rfl rfl 10 (by decide) (hts _ q1483) (fun _ h9 => h9) rfl dX4_tryAll_120 ?_
                refine lv_iload hx hb dX4_tryAll_123 (lv_at hl 1 rfl) ?_
                refine n_iald (i := w9) hx hb hK (hSep.cel (k := 0) rfl) 0 rfl (by omega) (by omega) dX4_tryAll_125 ?_
                refine n_eq (y := (gI bn gv w9)) (hG w9 hw18) ?_
                refine lv_iadd hx hb dX4_tryAll_126 ?_
                refine lv_istore (lv' := [(6, .int (w6 + (gI bn gv w9))), (7, .int (bI may2)), (9, .int (nI w9)), (8, .int (nI k)), (0, .ref mo), (1, .int (oI q1)), (2, .int (nI n1)), (3, .int (nI v1)), (4, .int (oI p1)), (5, .int (oI o1))]) hx hb dX4_tryAll_127 hl (by decide) rfl (fun ls hl => ?_)
                refine lv_iinc (v := (nI (k + 1))) (lv' := [(8, .int (nI (k + 1))), (6, .int (w6 + (gI bn gv w9))), (7, .int (bI may2)), (9, .int (nI w9)), (0, .ref mo), (1, .int (oI q1)), (2, .int (nI n1)), (3, .int (nI v1)), (4, .int (oI p1)), (5, .int (oI o1))]) hx hb dX4_tryAll_129 hl (k := 3) rfl (nI_inc k 1) (by decide) rfl (fun ls hl => ?_)
                refine lv_goto (tgt := 34) hx hb dX4_tryAll_132 (by decide) ?_
                exact ih34 (k + 1) (w6 + (gI bn gv w9)) may2 (t2 + 1) (upd fS2 t2 (nI w9)) (by omega) (by omega) (by rw [tr5_s _ _ _ _ _ (by omega)]; first | (rw [hn9, opL, List.append_nil]; exact hp34_1) | (rw [hw9, opL]; exact hp34_1.push hp34_2)) (by rw [tr5_s _ _ _ _ _ (by omega)]; first | (rw [hn9, opL, List.append_nil]; exact hp34_2) | (rw [hw9, opL, List.length_append, hp34_2]; rfl)) (by rw [tr5_s _ _ _ _ _ (by omega)]; first | (rw [hn9, opL, List.append_nil]; exact hp34_3) | (rw [hw9, opL, hp115_0, hp34_3, List.all_append]; simp [Bool.and_assoc])) (fun h9 => by rw [tr5_s _ _ _ _ _ (by omega)]; first | (rw [hn9, opL, List.append_nil]; exact hp34_4 h9) | (rw [hw9, opL, smS_app, ← nI_add]; rw [hp115_0, Bool.and_eq_true] at h9; rw [hp34_4 h9.1]; unfold gI; rw [if_neg (by have := h9.2; simp at this; simp [this])]; simp [smS])) _ _ _ (hSep.pick [2, 3, 0, 1] rfl rfl) hS (lv_sub hl [0, 2, 1, 4, 5, 6, 7, 8, 9] rfl)
              refine lv_iload hx hb dX4_tryAll_95 (lv_at hl 2 rfl) ?_
              refine b_if_eq (tgt := 114) hx hb dX4_tryAll_97 (by decide) (fun c97 => ?_) (fun c97 => ?_)
              · refine lv_iconst (v := (nI 0)) hx hb dX4_tryAll_114 (by decide) ?_
                exact L115 false (by first | (rw [c97]; rfl) | (rw [(gI_lt (hv w9)).mp c107]; simp)) _ _ _ hSep hS (lv_sub hl [0, 1, 2, 3, 4, 5, 6, 7, 8, 9] rfl)
              · refine lv_aload_n hx hb dX4_tryAll_100 rfl (lv_at hl 4 rfl) ?_
                refine va_get (D := G.1) (ci := 3) (v := .ref aG) (C := RX4) (T := TX4) (N := 16) hx hb hts in_X4 hown hK (hSep.cel (k := 2) rfl) 0 rfl rfl 10 (by decide) (hts _ q1483) (fun _ h9 => h9) rfl dX4_tryAll_101 ?_
                refine lv_iload hx hb dX4_tryAll_104 (lv_at hl 0 rfl) ?_
                refine n_iald (i := w9) hx hb hK (hSep.cel (k := 0) rfl) 0 rfl (by omega) (by omega) dX4_tryAll_106 ?_
                refine n_eq (y := (gI bn gv w9)) (hG w9 hw18) ?_
                refine lv_if_lt (tgt := 114) hx hb dX4_tryAll_107 (by decide) (fun c107 => ?_) (fun c107 => ?_)
                · refine lv_iconst (v := (nI 0)) hx hb dX4_tryAll_114 (by decide) ?_
                  exact L115 false (by first | (rw [c97]; rfl) | (rw [(gI_lt (hv w9)).mp c107]; simp)) _ _ _ hSep hS (lv_sub hl [0, 1, 2, 3, 4, 5, 6, 7, 8, 9] rfl)
                · refine lv_iconst (v := (nI 1)) hx hb dX4_tryAll_110 (by decide) ?_
                  refine lv_goto (tgt := 115) hx hb dX4_tryAll_111 (by decide) ?_
                  exact L115 true (by rw [c97, show bn w9 = false from Bool.eq_false_iff.mpr fun z => c107 ((gI_lt (hv w9)).mpr z)]; rfl) _ _ _ hSep hS (lv_sub hl [0, 1, 2, 3, 4, 5, 6, 7, 8, 9] rfl)
          refine lv_iload hx hb dX4_tryAll_40 (lv_at hl 0 rfl) ?_
          refine n_if_ne (tgt := 49) hx hb (by omega) dX4_tryAll_42 (by decide) (fun c42 => ?_) (fun c42 => ?_)
          · refine lv_iload hx hb dX4_tryAll_49 (lv_at hl 0 rfl) ?_
            refine lv_iconst (v := (nI 1)) hx hb dX4_tryAll_51 (by decide) ?_
            refine n_icmp_ne (tgt := 59) hx hb (by omega) (by omega) dX4_tryAll_52 (by decide) (fun c52 => ?_) (fun c52 => ?_)
            · refine lv_iload hx hb dX4_tryAll_59 (lv_at hl 0 rfl) ?_
              refine lv_iconst (v := (nI 2)) hx hb dX4_tryAll_61 (by decide) ?_
              refine n_icmp_ne (tgt := 69) hx hb (by omega) (by omega) dX4_tryAll_62 (by decide) (fun c62 => ?_) (fun c62 => ?_)
              · refine lv_iload hx hb dX4_tryAll_69 (lv_at hl 0 rfl) ?_
                refine lv_iconst (v := (nI 3)) hx hb dX4_tryAll_71 (by decide) ?_
                refine n_icmp_ne (tgt := 80) hx hb (by omega) (by omega) dX4_tryAll_72 (by decide) (fun c72 => ?_) (fun c72 => ?_)
                · refine lv_iload hx hb dX4_tryAll_80 (lv_at hl 8 rfl) ?_
                  exact L82 (oI o1) (by rw [show k = 4 by omega]; rfl) _ _ _ hSep hS (lv_sub hl [0, 1, 2, 3, 4, 5, 6, 7, 8] rfl)
                · refine lv_iload hx hb dX4_tryAll_75 (lv_at hl 7 rfl) ?_
                  refine lv_goto (tgt := 82) hx hb dX4_tryAll_77 (by decide) ?_
                  exact L82 (oI p1) (by rw [c72]; rfl) _ _ _ hSep hS (lv_sub hl [0, 1, 2, 3, 4, 5, 6, 7, 8] rfl)
              · refine lv_iload_n hx hb dX4_tryAll_65 rfl (lv_at hl 6 rfl) ?_
                refine lv_goto (tgt := 82) hx hb dX4_tryAll_66 (by decide) ?_
                exact L82 (nI v1) (by rw [c62]; rfl) _ _ _ hSep hS (lv_sub hl [0, 1, 2, 3, 4, 5, 6, 7, 8] rfl)
            · refine lv_iload_n hx hb dX4_tryAll_55 rfl (lv_at hl 5 rfl) ?_
              refine lv_goto (tgt := 82) hx hb dX4_tryAll_56 (by decide) ?_
              exact L82 (nI n1) (by rw [c52]; rfl) _ _ _ hSep hS (lv_sub hl [0, 1, 2, 3, 4, 5, 6, 7, 8] rfl)
          · refine lv_iload_n hx hb dX4_tryAll_45 rfl (lv_at hl 4 rfl) ?_
            refine lv_goto (tgt := 82) hx hb dX4_tryAll_46 (by decide) ?_
            exact L82 (oI q1) (by rw [c42]; rfl) _ _ _ hSep hS (lv_sub hl [0, 1, 2, 3, 4, 5, 6, 7, 8] rfl)
    exact L34 (5 - 0 + 1) 0 (nI 0) may0 0 fS (Nat.lt_succ_self _) (by omega) (Pre.nil) (rfl) (by rw [tr5_0]; simp) (fun _ => rfl) _ _ _ hSep hS (lv_sub hl [0, 1, 2, 3, 4, 5, 6, 7, 8] rfl)
  refine lv_iload_n hx hb dX4_tryAll_8 rfl (lv_at hl 3 rfl) ?_
  refine lv_iload hx hb dX4_tryAll_9 (lv_at hl 6 rfl) ?_
  refine lv_icmp_eq (tgt := 28) hx hb dX4_tryAll_11 (by decide) (fun c11 => ?_) (fun c11 => ?_)
  · refine lv_iconst (v := (nI 0)) hx hb dX4_tryAll_28 (by decide) ?_
    exact L29 false ((decide_eq_false (fun h9 => by first | exact h9.1 ((oI_inj (q := some n1) (fun w h => by cases h; exact hn18) (fun w h => (hg.2.2.2.1 w h).2)).mp c11) | (rcases h9.2 with h8 | h8; exact h8 ((oI_inj (fun w h => (hq w h).2) (fun w h => (hg.2.2.1 w h).2)).mp c17); rw [h8] at c21; exact absurd c21 (by decide)))).symm) _ _ _ hSep hS (lv_sub hl [0, 1, 2, 3, 4, 5, 6] rfl)
  · refine lv_iload_n hx hb dX4_tryAll_14 rfl (lv_at hl 2 rfl) ?_
    refine lv_iload hx hb dX4_tryAll_15 (lv_at hl 5 rfl) ?_
    refine lv_icmp_ne (tgt := 24) hx hb dX4_tryAll_17 (by decide) (fun c17 => ?_) (fun c17 => ?_)
    · refine lv_iconst (v := (nI 1)) hx hb dX4_tryAll_24 (by decide) ?_
      refine lv_goto (tgt := 29) hx hb dX4_tryAll_25 (by decide) ?_
      exact L29 true ((decide_eq_true ⟨fun e9 => c11 (by rw [← e9]; rfl), by first | exact Or.inl (fun e9 => c17 (by rw [e9])) | exact Or.inr ((oI_lt (fun w h => (hq w h).2)).mp (Int32.not_le.mp c21))⟩).symm) _ _ _ hSep hS (lv_sub hl [0, 1, 2, 3, 4, 5, 6] rfl)
    · refine lv_iload_n hx hb dX4_tryAll_20 rfl (lv_at hl 2 rfl) ?_
      refine lv_if_ge (tgt := 28) hx hb dX4_tryAll_21 (by decide) (fun c21 => ?_) (fun c21 => ?_)
      · refine lv_iconst (v := (nI 0)) hx hb dX4_tryAll_28 (by decide) ?_
        exact L29 false ((decide_eq_false (fun h9 => by first | exact h9.1 ((oI_inj (q := some n1) (fun w h => by cases h; exact hn18) (fun w h => (hg.2.2.2.1 w h).2)).mp c11) | (rcases h9.2 with h8 | h8; exact h8 ((oI_inj (fun w h => (hq w h).2) (fun w h => (hg.2.2.1 w h).2)).mp c17); rw [h8] at c21; exact absurd c21 (by decide)))).symm) _ _ _ hSep hS (lv_sub hl [0, 1, 2, 3, 4, 5, 6] rfl)
      · refine lv_iconst (v := (nI 1)) hx hb dX4_tryAll_24 (by decide) ?_
        refine lv_goto (tgt := 29) hx hb dX4_tryAll_25 (by decide) ?_
        exact L29 true ((decide_eq_true ⟨fun e9 => c11 (by rw [← e9]; rfl), by first | exact Or.inl (fun e9 => c17 (by rw [e9])) | exact Or.inr ((oI_lt (fun w h => (hq w h).2)).mp (Int32.not_le.mp c21))⟩).symm) _ _ _ hSep hS (lv_sub hl [0, 1, 2, 3, 4, 5, 6] rfl)
