set_option maxRecDepth 100000
set_option maxHeartbeats 600000 in
set_option maxRecDepth 100000 in
theorem m_X6_mover (l : Launch) (G : EVT) (sz : Nat) (d : Nat) (st : Nat) (tl : Nat) (ll : Nat) (to : Nat) (se : Int32) (tv : Nat) (tu : Int32) (sp : Bool) (ps : Bool) (ov : Bool) (fT : Nat → Option Nat) (tm : Nat) (htv : tv < 2) (hT1 : fT tv = some tm) : Met l yX6_mover (ws_ yX6_mover cX6_mover 1 (some (.object "TaleDuel$Teller"))) ({ frames := 0, cells := 0, slots := 0, locals := 0 } : Room) (SPc G (fun _ => False) sz [.ref d] [] (fun H => va_P G.1 clA [(d, .inr (4, [.ref st, .ref tl, .ref ll, .ref to, .int se, .int (nI tv), .int tu, .int (bI sp), .int (bI ps), .int (bI ov)])), (tl, .inl (G.2.1 6, 2, .inr (.inr (.inr (.inr fT)))))] H)) (SQq G (fun _ => False) sz (fun (r : Option Nat) (u : Unit) => r = some tm) (fun (u : Unit) => [])) (0) (0) (Fz (fun _ => False) sz) := by
  refine sp_of RX6 (by decide) rfl (Nat.le_of_ble_eq_true rfl) ?_
  intro p e s m args below meth c ls QQ hx hb hr hts hown hlocks hml hnm hsz hSep hΦ hE hS hl hQ
  subst hsz
  have hK := hE.1
  have hl : lv_has ls 1 [(0, .ref d)] := hl
  refine lv_aload_n hx hb dX6_mover_0 rfl (lv_at hl 0 rfl) ?_
  refine va_get (D := G.1) (ci := 4) (v := .ref tl) (C := RX6) (T := TX6) (N := 10) hx hb hts in_X6 hown hK (ro0 hΦ hS) 0 rfl rfl 1 (by decide) (hts _ q877) (fun _ h9 => h9) rfl dX6_mover_1 ?_
  refine lv_aload_n hx hb dX6_mover_4 rfl (lv_at hl 0 rfl) ?_
  refine va_get (D := G.1) (ci := 4) (v := .int (nI tv)) (C := RX6) (T := TX6) (N := 10) hx hb hts in_X6 hown hK (ro0 hΦ hS) 0 rfl rfl 5 (by decide) (hts _ q886) (fun _ h9 => h9) rfl dX6_mover_5 ?_
  refine n_aald (i := tv) hx hb hK ((ro0 hΦ hS).sub [1] rfl) 6 rfl (by omega) (by omega) dX6_mover_8 ?_
  refine n_eqv (y := .ref tm) (by rw [hT1]; rfl) ?_
  rw [hQ]
  exact r_q (r := some tm) (u := ()) hx hb hr (Or.inl ⟨_, rfl⟩) (rfl) hSep hS (by first | exact Nat.le_of_ble_eq_true rfl | omega | (dsimp only; omega)) (by first | exact Nat.le_of_ble_eq_true rfl | omega | (dsimp only; omega)) dX6_mover_9 hlocks

set_option maxHeartbeats 600000 in
set_option maxRecDepth 100000 in
theorem m_X6_other (l : Launch) (G : EVT) (sz : Nat) (d : Nat) (st : Nat) (tl : Nat) (ll : Nat) (to : Nat) (se : Int32) (tv : Nat) (tu : Int32) (sp : Bool) (ps : Bool) (ov : Bool) (fT : Nat → Option Nat) (ox : Nat) (htv : tv < 2) (hT2 : fT (1 - tv) = some ox) : Met l yX6_other (ws_ yX6_other cX6_other 1 (some (.object "TaleDuel$Teller"))) ({ frames := 0, cells := 0, slots := 0, locals := 0 } : Room) (SPc G (fun _ => False) sz [.ref d] [] (fun H => va_P G.1 clA [(d, .inr (4, [.ref st, .ref tl, .ref ll, .ref to, .int se, .int (nI tv), .int tu, .int (bI sp), .int (bI ps), .int (bI ov)])), (tl, .inl (G.2.1 6, 2, .inr (.inr (.inr (.inr fT)))))] H)) (SQq G (fun _ => False) sz (fun (r : Option Nat) (u : Unit) => r = some ox) (fun (u : Unit) => [])) (0) (0) (Fz (fun _ => False) sz) := by
  refine sp_of RX6 (by decide) rfl (Nat.le_of_ble_eq_true rfl) ?_
  intro p e s m args below meth c ls QQ hx hb hr hts hown hlocks hml hnm hsz hSep hΦ hE hS hl hQ
  subst hsz
  have hK := hE.1
  have hl : lv_has ls 1 [(0, .ref d)] := hl
  refine lv_aload_n hx hb dX6_other_0 rfl (lv_at hl 0 rfl) ?_
  refine va_get (D := G.1) (ci := 4) (v := .ref tl) (C := RX6) (T := TX6) (N := 10) hx hb hts in_X6 hown hK (ro0 hΦ hS) 0 rfl rfl 1 (by decide) (hts _ q877) (fun _ h9 => h9) rfl dX6_other_1 ?_
  refine lv_iconst (v := (nI 1)) hx hb dX6_other_4 (by decide) ?_
  refine lv_aload_n hx hb dX6_other_5 rfl (lv_at hl 0 rfl) ?_
  refine va_get (D := G.1) (ci := 4) (v := .int (nI tv)) (C := RX6) (T := TX6) (N := 10) hx hb hts in_X6 hown hK (ro0 hΦ hS) 0 rfl rfl 5 (by decide) (hts _ q886) (fun _ h9 => h9) rfl dX6_other_6 ?_
  refine n_isub hx hb (by omega) dX6_other_9 ?_
  refine n_aald (i := 1 - tv) hx hb hK ((ro0 hΦ hS).sub [1] rfl) 6 rfl (by omega) (by omega) dX6_other_10 ?_
  refine n_eqv (y := .ref ox) (by rw [hT2]; rfl) ?_
  rw [hQ]
  exact r_q (r := some ox) (u := ()) hx hb hr (Or.inl ⟨_, rfl⟩) (rfl) hSep hS (by first | exact Nat.le_of_ble_eq_true rfl | omega | (dsimp only; omega)) (by first | exact Nat.le_of_ble_eq_true rfl | omega | (dsimp only; omega)) dX6_other_11 hlocks

set_option maxHeartbeats 600000 in
set_option maxRecDepth 100000 in
theorem m_X6_there (l : Launch) (G : EVT) (sz : Nat) (d : Nat) (st : Nat) (tl : Nat) (ll : Nat) (to : Nat) (se : Int32) (tv : Nat) (tu : Int32) (sp : Bool) (ps : Bool) (ov : Bool) (fL : Nat → Option Nat) (l0 : Nat) (l1 : Nat) (l2 : Nat) (g : GS) (hL0 : fL 0 = some l0) (hL1 : fL 1 = some l1) (hL2 : fL 2 = some l2) : Met l yX6_there (ws_ yX6_there cX6_there 3 (some .int)) ({ frames := 0, cells := 0, slots := 0, locals := 0 } : Room) (SPc G (fun _ => False) sz [.ref d] [] (fun H => va_P G.1 clA [(d, .inr (4, [.ref st, .ref tl, .ref ll, .ref to, .int se, .int (nI tv), .int tu, .int (bI sp), .int (bI ps), .int (bI ov)])), (ll, .inl (G.2.1 7, 3, .inr (.inr (.inr (.inr fL))))), (l0, .inr (7, [.int (g.1 (11 + 0)), .int (g.1 (14 + 0)), .int (bI (!gThere g 0)), .int (g.1 (20 + 0))])), (l1, .inr (7, [.int (g.1 (11 + 1)), .int (g.1 (14 + 1)), .int (bI (!gThere g 1)), .int (g.1 (20 + 1))])), (l2, .inr (7, [.int (g.1 (11 + 2)), .int (g.1 (14 + 2)), .int (bI (!gThere g 2)), .int (g.1 (20 + 2))]))] H)) (SQi G (fun _ => False) sz (fun (r : Int32) (u : Unit) => r = (mkS (gThere g) 3)) (fun (u : Unit) => [])) (0) (0) (Fz (fun _ => False) sz) := by
  refine sp_of RX6 (by decide) rfl (Nat.le_of_ble_eq_true rfl) ?_
  intro p e s m args below meth c ls QQ hx hb hr hts hown hlocks hml hnm hsz hSep hΦ hE hS hl hQ
  subst hsz
  have hK := hE.1
  have hl : lv_has ls 3 [(0, .ref d)] := hl
  refine lv_iconst (v := (nI 0)) hx hb dX6_there_0 (by decide) ?_
  refine n_eq (y := (mkS (gThere g) 0)) (rfl) ?_
  refine lv_istore_n (lv' := [(1, .int (mkS (gThere g) 0)), (0, .ref d)]) hx hb dX6_there_1 rfl hl (by decide) rfl (fun ls hl => ?_)
  refine lv_iconst (v := (nI 0)) hx hb dX6_there_2 (by decide) ?_
  refine lv_istore_n (lv' := [(2, .int (nI 0)), (1, .int (mkS (gThere g) 0)), (0, .ref d)]) hx hb dX6_there_3 rfl hl (by decide) rfl (fun ls hl => ?_)
  have L4 : ∀ (fu : Nat) (k : Nat) , 3 - k < fu → (k ≤ 3) → ∀ (H : Heap) (locs : List Loc) (ls : Array Slot), Sep G.1 clA (Fz (fun _ => False) s.heap.size) [] H → va_S (Fz (fun _ => False) s.heap.size) s.heap H locs → lv_has ls 3 [(2, .int (nI k)), (1, .int (mkS (gThere g) k)), (0, .ref d)] → W p l e ({ frames := 0, cells := 0, slots := 0, locals := 0 } : Room) s m args below meth c H locs (0) (0) QQ (F0 m 4 ls []) := by
    intro fu
    induction fu with
    | zero => intro k hm; exact absurd hm (Nat.not_lt_zero _)
    | succ fu ih4 =>
      intro k hm4 hp4_0 H locs ls hSep hS hl
      refine lv_iload_n hx hb dX6_there_4 rfl (lv_at hl 0 rfl) ?_
      refine lv_iconst (v := (nI 3)) hx hb dX6_there_5 (by decide) ?_
      refine n_icmp_ge (tgt := 37) hx hb (by omega) (by omega) dX6_there_6 (by decide) (fun c6 => ?_) (fun c6 => ?_)
      · obtain rfl : k = 3 := by omega
        refine lv_iload_n hx hb dX6_there_37 rfl (lv_at hl 1 rfl) ?_
        rw [hQ]
        exact r_i (r := (mkS (gThere g) 3)) (u := ()) hx hb hr (rfl) hSep hS (by first | exact Nat.le_of_ble_eq_true rfl | omega | (dsimp only; omega)) (by first | exact Nat.le_of_ble_eq_true rfl | omega | (dsimp only; omega)) dX6_there_38 hlocks
      · rcases (show k = 0 ∨ k = 1 ∨ k = 2 by omega) with rfl | rfl | rfl
        · refine lv_iload_n hx hb dX6_there_9 rfl (lv_at hl 1 rfl) ?_
          refine lv_aload_n hx hb dX6_there_10 rfl (lv_at hl 2 rfl) ?_
          refine va_get (D := G.1) (ci := 4) (v := .ref ll) (C := RX6) (T := TX6) (N := 10) hx hb hts in_X6 hown hK (ro0 hΦ hS) 0 rfl rfl 2 (by decide) (hts _ q879) (fun _ h9 => h9) rfl dX6_there_11 ?_
          refine lv_iload_n hx hb dX6_there_14 rfl (lv_at hl 0 rfl) ?_
          refine n_aald (i := 0) hx hb hK ((ro0 hΦ hS).sub [1] rfl) 7 rfl (by omega) (by omega) dX6_there_15 ?_
          refine n_eqv (y := .ref l0) (by rw [hL0]; rfl) ?_
          refine va_getN (D := G.1) (ci := 7) (v := .int (bI (!gThere g 0))) (C := RX9) (T := TX9) (N := 4) hx hb hts in_X9 hown hK (ro0 hΦ hS) 2 rfl rfl 2 (by decide) (va_Nw.use rfl (hE.2.1 _ q533 rfl)) (fun _ h9 => h9) rfl dX6_there_16 ?_
          refine b_if_eq (tgt := 26) hx hb dX6_there_19 (by decide) (fun c19 => ?_) (fun c19 => ?_)
          · refine lv_iconst (v := (nI 1)) hx hb dX6_there_26 (by decide) ?_
            refine lv_iload_n hx hb dX6_there_27 rfl (lv_at hl 0 rfl) ?_
            refine lv_ishl hx hb dX6_there_28 ?_
            refine lv_ior hx hb dX6_there_29 ?_
            refine n_eq (y := (mkS (gThere g) (0 + 1))) (by first | exact mkS_t (nb_f c19) | exact mkS_f (nb_t c19)) ?_
            refine lv_istore_n (lv' := [(1, .int (mkS (gThere g) (0 + 1))), (2, .int (nI 0)), (0, .ref d)]) hx hb dX6_there_30 rfl hl (by decide) rfl (fun ls hl => ?_)
            refine lv_iinc (v := (nI (0 + 1))) (lv' := [(2, .int (nI (0 + 1))), (1, .int (mkS (gThere g) (0 + 1))), (0, .ref d)]) hx hb dX6_there_31 hl (k := 1) rfl (nI_inc 0 1) (by decide) rfl (fun ls hl => ?_)
            refine lv_goto (tgt := 4) hx hb dX6_there_34 (by decide) ?_
            exact ih4 (0 + 1) (by omega) (by omega) _ _ _ hSep hS (lv_sub hl [0, 1, 2] rfl)
          · refine lv_iconst (v := (nI 0)) hx hb dX6_there_22 (by decide) ?_
            refine lv_goto (tgt := 29) hx hb dX6_there_23 (by decide) ?_
            refine lv_ior hx hb dX6_there_29 ?_
            refine n_eq (y := (mkS (gThere g) (0 + 1))) (by first | exact mkS_t (nb_f c19) | exact mkS_f (nb_t c19)) ?_
            refine lv_istore_n (lv' := [(1, .int (mkS (gThere g) (0 + 1))), (2, .int (nI 0)), (0, .ref d)]) hx hb dX6_there_30 rfl hl (by decide) rfl (fun ls hl => ?_)
            refine lv_iinc (v := (nI (0 + 1))) (lv' := [(2, .int (nI (0 + 1))), (1, .int (mkS (gThere g) (0 + 1))), (0, .ref d)]) hx hb dX6_there_31 hl (k := 1) rfl (nI_inc 0 1) (by decide) rfl (fun ls hl => ?_)
            refine lv_goto (tgt := 4) hx hb dX6_there_34 (by decide) ?_
            exact ih4 (0 + 1) (by omega) (by omega) _ _ _ hSep hS (lv_sub hl [0, 1, 2] rfl)
        · refine lv_iload_n hx hb dX6_there_9 rfl (lv_at hl 1 rfl) ?_
          refine lv_aload_n hx hb dX6_there_10 rfl (lv_at hl 2 rfl) ?_
          refine va_get (D := G.1) (ci := 4) (v := .ref ll) (C := RX6) (T := TX6) (N := 10) hx hb hts in_X6 hown hK (ro0 hΦ hS) 0 rfl rfl 2 (by decide) (hts _ q879) (fun _ h9 => h9) rfl dX6_there_11 ?_
          refine lv_iload_n hx hb dX6_there_14 rfl (lv_at hl 0 rfl) ?_
          refine n_aald (i := 1) hx hb hK ((ro0 hΦ hS).sub [1] rfl) 7 rfl (by omega) (by omega) dX6_there_15 ?_
          refine n_eqv (y := .ref l1) (by rw [hL1]; rfl) ?_
          refine va_getN (D := G.1) (ci := 7) (v := .int (bI (!gThere g 1))) (C := RX9) (T := TX9) (N := 4) hx hb hts in_X9 hown hK (ro0 hΦ hS) 3 rfl rfl 2 (by decide) (va_Nw.use rfl (hE.2.1 _ q533 rfl)) (fun _ h9 => h9) rfl dX6_there_16 ?_
          refine b_if_eq (tgt := 26) hx hb dX6_there_19 (by decide) (fun c19 => ?_) (fun c19 => ?_)
          · refine lv_iconst (v := (nI 1)) hx hb dX6_there_26 (by decide) ?_
            refine lv_iload_n hx hb dX6_there_27 rfl (lv_at hl 0 rfl) ?_
            refine lv_ishl hx hb dX6_there_28 ?_
            refine lv_ior hx hb dX6_there_29 ?_
            refine n_eq (y := (mkS (gThere g) (1 + 1))) (by first | exact mkS_t (nb_f c19) | exact mkS_f (nb_t c19)) ?_
            refine lv_istore_n (lv' := [(1, .int (mkS (gThere g) (1 + 1))), (2, .int (nI 1)), (0, .ref d)]) hx hb dX6_there_30 rfl hl (by decide) rfl (fun ls hl => ?_)
            refine lv_iinc (v := (nI (1 + 1))) (lv' := [(2, .int (nI (1 + 1))), (1, .int (mkS (gThere g) (1 + 1))), (0, .ref d)]) hx hb dX6_there_31 hl (k := 1) rfl (nI_inc 1 1) (by decide) rfl (fun ls hl => ?_)
            refine lv_goto (tgt := 4) hx hb dX6_there_34 (by decide) ?_
            exact ih4 (1 + 1) (by omega) (by omega) _ _ _ hSep hS (lv_sub hl [0, 1, 2] rfl)
          · refine lv_iconst (v := (nI 0)) hx hb dX6_there_22 (by decide) ?_
            refine lv_goto (tgt := 29) hx hb dX6_there_23 (by decide) ?_
            refine lv_ior hx hb dX6_there_29 ?_
            refine n_eq (y := (mkS (gThere g) (1 + 1))) (by first | exact mkS_t (nb_f c19) | exact mkS_f (nb_t c19)) ?_
            refine lv_istore_n (lv' := [(1, .int (mkS (gThere g) (1 + 1))), (2, .int (nI 1)), (0, .ref d)]) hx hb dX6_there_30 rfl hl (by decide) rfl (fun ls hl => ?_)
            refine lv_iinc (v := (nI (1 + 1))) (lv' := [(2, .int (nI (1 + 1))), (1, .int (mkS (gThere g) (1 + 1))), (0, .ref d)]) hx hb dX6_there_31 hl (k := 1) rfl (nI_inc 1 1) (by decide) rfl (fun ls hl => ?_)
            refine lv_goto (tgt := 4) hx hb dX6_there_34 (by decide) ?_
            exact ih4 (1 + 1) (by omega) (by omega) _ _ _ hSep hS (lv_sub hl [0, 1, 2] rfl)
        · refine lv_iload_n hx hb dX6_there_9 rfl (lv_at hl 1 rfl) ?_
          refine lv_aload_n hx hb dX6_there_10 rfl (lv_at hl 2 rfl) ?_
          refine va_get (D := G.1) (ci := 4) (v := .ref ll) (C := RX6) (T := TX6) (N := 10) hx hb hts in_X6 hown hK (ro0 hΦ hS) 0 rfl rfl 2 (by decide) (hts _ q879) (fun _ h9 => h9) rfl dX6_there_11 ?_
          refine lv_iload_n hx hb dX6_there_14 rfl (lv_at hl 0 rfl) ?_
          refine n_aald (i := 2) hx hb hK ((ro0 hΦ hS).sub [1] rfl) 7 rfl (by omega) (by omega) dX6_there_15 ?_
          refine n_eqv (y := .ref l2) (by rw [hL2]; rfl) ?_
          refine va_getN (D := G.1) (ci := 7) (v := .int (bI (!gThere g 2))) (C := RX9) (T := TX9) (N := 4) hx hb hts in_X9 hown hK (ro0 hΦ hS) 4 rfl rfl 2 (by decide) (va_Nw.use rfl (hE.2.1 _ q533 rfl)) (fun _ h9 => h9) rfl dX6_there_16 ?_
          refine b_if_eq (tgt := 26) hx hb dX6_there_19 (by decide) (fun c19 => ?_) (fun c19 => ?_)
          · refine lv_iconst (v := (nI 1)) hx hb dX6_there_26 (by decide) ?_
            refine lv_iload_n hx hb dX6_there_27 rfl (lv_at hl 0 rfl) ?_
            refine lv_ishl hx hb dX6_there_28 ?_
            refine lv_ior hx hb dX6_there_29 ?_
            refine n_eq (y := (mkS (gThere g) (2 + 1))) (by first | exact mkS_t (nb_f c19) | exact mkS_f (nb_t c19)) ?_
            refine lv_istore_n (lv' := [(1, .int (mkS (gThere g) (2 + 1))), (2, .int (nI 2)), (0, .ref d)]) hx hb dX6_there_30 rfl hl (by decide) rfl (fun ls hl => ?_)
            refine lv_iinc (v := (nI (2 + 1))) (lv' := [(2, .int (nI (2 + 1))), (1, .int (mkS (gThere g) (2 + 1))), (0, .ref d)]) hx hb dX6_there_31 hl (k := 1) rfl (nI_inc 2 1) (by decide) rfl (fun ls hl => ?_)
            refine lv_goto (tgt := 4) hx hb dX6_there_34 (by decide) ?_
            exact ih4 (2 + 1) (by omega) (by omega) _ _ _ hSep hS (lv_sub hl [0, 1, 2] rfl)
          · refine lv_iconst (v := (nI 0)) hx hb dX6_there_22 (by decide) ?_
            refine lv_goto (tgt := 29) hx hb dX6_there_23 (by decide) ?_
            refine lv_ior hx hb dX6_there_29 ?_
            refine n_eq (y := (mkS (gThere g) (2 + 1))) (by first | exact mkS_t (nb_f c19) | exact mkS_f (nb_t c19)) ?_
            refine lv_istore_n (lv' := [(1, .int (mkS (gThere g) (2 + 1))), (2, .int (nI 2)), (0, .ref d)]) hx hb dX6_there_30 rfl hl (by decide) rfl (fun ls hl => ?_)
            refine lv_iinc (v := (nI (2 + 1))) (lv' := [(2, .int (nI (2 + 1))), (1, .int (mkS (gThere g) (2 + 1))), (0, .ref d)]) hx hb dX6_there_31 hl (k := 1) rfl (nI_inc 2 1) (by decide) rfl (fun ls hl => ?_)
            refine lv_goto (tgt := 4) hx hb dX6_there_34 (by decide) ?_
            exact ih4 (2 + 1) (by omega) (by omega) _ _ _ hSep hS (lv_sub hl [0, 1, 2] rfl)
  exact L4 (3 - 0 + 1) 0 (Nat.lt_succ_self _) (by omega) _ _ _ hSep hS (lv_sub hl [0, 1, 2] rfl)

set_option maxHeartbeats 600000 in
set_option maxRecDepth 100000 in
theorem m_X6_memory (l : Launch) (G : EVT) (sz : Nat) (d : Nat) (st : Nat) (tl : Nat) (ll : Nat) (to : Nat) (se : Int32) (tv : Nat) (tu : Int32) (sp : Bool) (ps : Bool) (ov : Bool) (fS : Nat → Int32) (Z : List (Nat × List Nat)) (lg : List (List Nat)) (m0 : Nat) (hm : fS 0 = nI m0) (hm6 : m0 ≤ 6) (hl6 : lg.length ≤ 6) : Met l yX6_memory (ws_ yX6_memory cX6_memory 3 (some .int)) ({ frames := 4, cells := 0, slots := 0, locals := 85 } : Room) (SPc G (fun _ => False) sz [.ref d] [] (fun H => va_P G.1 clA [(d, .inr (4, [.ref st, .ref tl, .ref ll, .ref to, .int se, .int (nI tv), .int tu, .int (bI sp), .int (bI ps), .int (bI ov)])), (st, .inl (G.2.1 0, 4, .inl fS))] H ∧ Hol G.1 clA (stoA G Z to lg) H ∧ Hol G.1 clA (frozA G Z) H)) (SQi G (fun _ => False) sz (fun (r : Int32) (u : Unit) => r = (msk ((lg.take m0).flatten))) (fun (u : Unit) => [])) (0) (0) (Fz (fun _ => False) sz) := by
  refine sp_of RX6 (by decide) rfl (Nat.le_of_ble_eq_true rfl) ?_
  intro p e s m args below meth c ls QQ hx hb hr hts hown hlocks hml hnm hsz hSep hΦ hE hS hl hQ
  subst hsz
  have hK := hE.1
  have hl : lv_has ls 3 [(0, .ref d)] := hl
  refine lv_iconst (v := (nI 0)) hx hb dX6_memory_0 (by decide) ?_
  refine n_eq (y := (msk ((lg.take 0).flatten))) (msk_nil.symm) ?_
  refine lv_istore_n (lv' := [(1, .int (msk ((lg.take 0).flatten))), (0, .ref d)]) hx hb dX6_memory_1 rfl hl (by decide) rfl (fun ls hl => ?_)
  refine lv_iconst (v := (nI 0)) hx hb dX6_memory_2 (by decide) ?_
  refine lv_istore_n (lv' := [(2, .int (nI 0)), (1, .int (msk ((lg.take 0).flatten))), (0, .ref d)]) hx hb dX6_memory_3 rfl hl (by decide) rfl (fun ls hl => ?_)
  have L4 : ∀ (fu : Nat) (k : Nat) , m0 - k < fu → (k ≤ lg.length) → (k ≤ m0) → ∀ (H : Heap) (locs : List Loc) (ls : Array Slot), Sep G.1 clA (Fz (fun _ => False) s.heap.size) [] H → va_S (Fz (fun _ => False) s.heap.size) s.heap H locs → lv_has ls 3 [(2, .int (nI k)), (1, .int (msk ((lg.take k).flatten))), (0, .ref d)] → W p l e ({ frames := 4, cells := 0, slots := 0, locals := 85 } : Room) s m args below meth c H locs (0) (0) QQ (F0 m 4 ls []) := by
    intro fu
    induction fu with
    | zero => intro k hm; exact absurd hm (Nat.not_lt_zero _)
    | succ fu ih4 =>
      intro k hm4 hp4_0 hp4_1 H locs ls hSep hS hl
      refine lv_iload_n hx hb dX6_memory_4 rfl (lv_at hl 0 rfl) ?_
      refine lv_aload_n hx hb dX6_memory_5 rfl (lv_at hl 2 rfl) ?_
      refine va_get (D := G.1) (ci := 4) (v := .ref to) (C := RX6) (T := TX6) (N := 10) hx hb hts in_X6 hown hK (ro0 hΦ.1 hS) 0 rfl rfl 3 (by decide) (hts _ q882) (fun _ h9 => h9) rfl dX6_memory_6 ?_
      obtain ⟨fs8, hob8⟩ := sto_obj (ro1 hΦ.2.1 hS)
      have hFk_1 : ∀ q, Fz (fun _ => False) H.size q → (Fz (fun _ => False) s.heap.size) q := fun q h => by rcases h with h | h; exact h.elim; exact Fz.new (Nat.le_trans hS.1 h)
      have hPk_1 : Sep G.1 clA (Fz (fun _ => False) H.size) [] H := sp_nil
      have hJk_1 := sp_nilJ (F := (fun _ => False)) hSep (fun _ => id) hFk_1
      refine c_i (va_runV (As := []) (rest := [.int (nI k)]) ⟨hx, hb, hml, hown, hts⟩ (m_X7_size l G H.size Z to lg ) (cwV 0 hts (lw_V q546 q547 q548 q61 q549) rfl rfl rfl (by decide +kernel) ⟨Nat.le_of_ble_eq_true rfl, Nat.le_of_ble_eq_true rfl⟩) (sp_preV hE hS hFk_1 hPk_1 (ro1 hΦ.2.1 hS) (sp_recv (ci := 5) hK hob8 rfl)) rfl rfl hl.1 rfl (lv_room (Nat.le_of_ble_eq_true rfl)) dX6_memory_9 ⟨by first | exact Nat.le_of_ble_eq_true rfl | omega | (dsimp only; omega), by first | exact Nat.le_of_ble_eq_true rfl | omega | (dsimp only; omega)⟩) hS hFk_1 hJk_1 (fun r_2 u_3 H locs hpk_1 hSep hS hzk_1 => ?_)
      obtain rfl : r_2 = (nI lg.length) := hpk_1
      refine W.cs (cells' := 0) (slots' := 0) rfl rfl ?_
      have hSep : Sep G.1 clA (Fz (fun _ => False) s.heap.size) [] H := hSep
      refine n_icmp_ge (tgt := 48) hx hb (by omega) (by omega) dX6_memory_12 (by decide) (fun c12 => ?_) (fun c12 => ?_)
      · refine lv_iload_n hx hb dX6_memory_48 rfl (lv_at hl 1 rfl) ?_
        rw [hQ]
        exact r_i (r := (msk ((lg.take k).flatten))) (u := ()) hx hb hr (by first | (rw [List.take_of_length_le (show lg.length ≤ k by omega), List.take_of_length_le (show lg.length ≤ m0 by omega)]) | (rw [show k = m0 by omega])) hSep hS (by first | exact Nat.le_of_ble_eq_true rfl | omega | (dsimp only; omega)) (by first | exact Nat.le_of_ble_eq_true rfl | omega | (dsimp only; omega)) dX6_memory_49 hlocks
      · refine lv_iload_n hx hb dX6_memory_15 rfl (lv_at hl 0 rfl) ?_
        refine lv_aload_n hx hb dX6_memory_16 rfl (lv_at hl 2 rfl) ?_
        refine va_get (D := G.1) (ci := 4) (v := .ref st) (C := RX6) (T := TX6) (N := 10) hx hb hts in_X6 hown hK (ro0 hΦ.1 hS) 0 rfl rfl 0 (by decide) (hts _ q876) (fun _ h9 => h9) rfl dX6_memory_17 ?_
        refine lv_iconst (v := (nI 0)) hx hb dX6_memory_20 (by decide) ?_
        refine n_iald (i := 0) hx hb hK ((ro0 hΦ.1 hS).sub [1] rfl) 0 rfl (by omega) (by omega) dX6_memory_21 ?_
        refine n_eq (y := (nI m0)) (hm) ?_
        refine n_icmp_ge (tgt := 48) hx hb (by omega) (by omega) dX6_memory_22 (by decide) (fun c22 => ?_) (fun c22 => ?_)
        · refine lv_iload_n hx hb dX6_memory_48 rfl (lv_at hl 1 rfl) ?_
          rw [hQ]
          exact r_i (r := (msk ((lg.take k).flatten))) (u := ()) hx hb hr (by first | (rw [List.take_of_length_le (show lg.length ≤ k by omega), List.take_of_length_le (show lg.length ≤ m0 by omega)]) | (rw [show k = m0 by omega])) hSep hS (by first | exact Nat.le_of_ble_eq_true rfl | omega | (dsimp only; omega)) (by first | exact Nat.le_of_ble_eq_true rfl | omega | (dsimp only; omega)) dX6_memory_49 hlocks
        · refine lv_iload_n hx hb dX6_memory_25 rfl (lv_at hl 1 rfl) ?_
          refine lv_aload_n hx hb dX6_memory_26 rfl (lv_at hl 2 rfl) ?_
          refine va_get (D := G.1) (ci := 4) (v := .ref to) (C := RX6) (T := TX6) (N := 10) hx hb hts in_X6 hown hK (ro0 hΦ.1 hS) 0 rfl rfl 3 (by decide) (hts _ q882) (fun _ h9 => h9) rfl dX6_memory_27 ?_
          refine lv_iload_n hx hb dX6_memory_30 rfl (lv_at hl 0 rfl) ?_
          obtain ⟨fs8, hob8⟩ := sto_obj (ro1 hΦ.2.1 hS)
          have hFk_4 : ∀ q, Fz (fun _ => False) H.size q → (Fz (fun _ => False) s.heap.size) q := fun q h => by rcases h with h | h; exact h.elim; exact Fz.new (Nat.le_trans hS.1 h)
          have hPk_4 : Sep G.1 clA (Fz (fun _ => False) H.size) [] H := sp_nil
          have hJk_4 := sp_nilJ (F := (fun _ => False)) hSep (fun _ => id) hFk_4
          refine c_q (va_runV (As := [.int (nI k)]) (rest := [.int (msk ((lg.take k).flatten))]) ⟨hx, hb, hml, hown, hts⟩ (m_X7_get l G H.size Z to lg k (by omega)) (cwV 1 hts (lw_V q559 q560 q561 q61 q562) rfl rfl rfl (by decide +kernel) ⟨Nat.le_of_ble_eq_true rfl, Nat.le_of_ble_eq_true rfl⟩) (sp_preV hE hS hFk_4 hPk_4 (⟨ro1 hΦ.2.1 hS, ro1 hΦ.2.2 hS⟩) (sp_recv (ci := 5) hK hob8 rfl)) rfl rfl hl.1 rfl (lv_room (Nat.le_of_ble_eq_true rfl)) dX6_memory_31 ⟨by first | exact Nat.le_of_ble_eq_true rfl | omega | (dsimp only; omega), by first | exact Nat.le_of_ble_eq_true rfl | omega | (dsimp only; omega)⟩) hS hFk_4 hJk_4 (fun r_5 u_6 H locs hpk_4 hSep hS hzk_4 => ?_)
          obtain ⟨r9, rfl⟩ : ∃ z, z = u_6 := ⟨_, rfl⟩
          obtain ⟨rfl, hpk_4⟩ : r_5 = some r9 ∧ ∃ C, (r9, C) ∈ Z ∧ senOk C ∧ lg.getD k [] = tW C := hpk_4
          refine W.cs (cells' := 0) (slots' := 0) rfl rfl ?_
          have hSep : Sep G.1 clA (Fz (fun _ => False) s.heap.size) [] H := hSep
          obtain ⟨C9, hZ9, hs9, hl9⟩ := hpk_4
          obtain ⟨ch9, fC9, ⟨hC1, hC2, hC3⟩, hvp⟩ := froz_get (ro1 hΦ.2.2 hS) hZ9
          refine va_castS (nm := RX3) hx hb hown (hts _ q583) (hK.1 2 _ rfl).2 (sp_recv (ci := 2) hK (hvp.sub [0] rfl) rfl) dX6_memory_34 ?_
          have hFk_7 : ∀ q, Fz (fun _ => False) H.size q → (Fz (fun _ => False) s.heap.size) q := fun q h => by rcases h with h | h; exact h.elim; exact Fz.new (Nat.le_trans hS.1 h)
          have hPk_7 : Sep G.1 clA (Fz (fun _ => False) H.size) [] H := sp_nil
          have hJk_7 := sp_nilJ (F := (fun _ => False)) hSep (fun _ => id) hFk_7
          refine c_i (va_runV (As := []) (rest := [.int (msk ((lg.take k).flatten))]) ⟨hx, hb, hml, hown, hts⟩ (m_X3_set l G H.size r9 ch9 fC9 C9 (hC1) (hC2) (hC3) (hs9)) (cwV 0 hts (lw_V q1019 q961 q962 q43 q963) rfl rfl rfl (by decide +kernel) ⟨Nat.le_of_ble_eq_true rfl, Nat.le_of_ble_eq_true rfl⟩) (sp_preV hE hS hFk_7 hPk_7 hvp (sp_recv (ci := 2) hK (hvp.sub [0] rfl) rfl)) rfl rfl hl.1 rfl (lv_room (Nat.le_of_ble_eq_true rfl)) dX6_memory_37 ⟨by first | exact Nat.le_of_ble_eq_true rfl | omega | (dsimp only; omega), by first | exact Nat.le_of_ble_eq_true rfl | omega | (dsimp only; omega)⟩) hS hFk_7 hJk_7 (fun r_8 u_9 H locs hpk_7 hSep hS hzk_7 => ?_)
          obtain rfl : r_8 = (msk (tW C9)) := hpk_7
          refine W.cs (cells' := 0) (slots' := 0) rfl rfl ?_
          have hSep : Sep G.1 clA (Fz (fun _ => False) s.heap.size) [] H := hSep
          refine lv_ior hx hb dX6_memory_40 ?_
          refine n_eq (y := (msk ((lg.take (k + 1)).flatten))) (by rw [← hl9, msk_or, flat_s (by omega)]) ?_
          refine lv_istore_n (lv' := [(1, .int (msk ((lg.take (k + 1)).flatten))), (2, .int (nI k)), (0, .ref d)]) hx hb dX6_memory_41 rfl hl (by decide) rfl (fun ls hl => ?_)
          refine lv_iinc (v := (nI (k + 1))) (lv' := [(2, .int (nI (k + 1))), (1, .int (msk ((lg.take (k + 1)).flatten))), (0, .ref d)]) hx hb dX6_memory_42 hl (k := 1) rfl (nI_inc k 1) (by decide) rfl (fun ls hl => ?_)
          refine lv_goto (tgt := 4) hx hb dX6_memory_45 (by decide) ?_
          exact ih4 (k + 1) (by omega) (by omega) (by omega) _ _ _ hSep hS (lv_sub hl [0, 1, 2] rfl)
  exact L4 (m0 - 0 + 1) 0 (Nat.lt_succ_self _) (by omega) (by omega) _ _ _ hSep hS (lv_sub hl [0, 1, 2] rfl)

set_option maxHeartbeats 600000 in
set_option maxRecDepth 100000 in
theorem m_X6_worth (l : Launch) (G : EVT) (sz : Nat) (d : Nat) (st : Nat) (tl : Nat) (ll : Nat) (to : Nat) (se : Int32) (tv : Nat) (tu : Int32) (sp : Bool) (ps : Bool) (ov : Bool) (fL : Nat → Option Nat) (l0 : Nat) (l1 : Nat) (l2 : Nat) (g : GS) (w1 : Nat) (mem : List Nat) (x : Int32) (hL0 : fL 0 = some l0) (hL1 : fL 1 = some l1) (hL2 : fL 2 = some l2) (hw : w1 < 18) (hx9 : x = msk mem) : Met l yX6_worth (ws_ yX6_worth cX6_worth 8 (some .int)) ({ frames := 2, cells := 0, slots := 0, locals := 41 } : Room) (SPc G (fun _ => False) sz [.ref d, .int (nI w1), .int x] [] (fun H => va_P G.1 clA [(d, .inr (4, [.ref st, .ref tl, .ref ll, .ref to, .int se, .int (nI tv), .int tu, .int (bI sp), .int (bI ps), .int (bI ov)])), (ll, .inl (G.2.1 7, 3, .inr (.inr (.inr (.inr fL))))), (l0, .inr (7, [.int (g.1 (11 + 0)), .int (g.1 (14 + 0)), .int (bI (!gThere g 0)), .int (g.1 (20 + 0))])), (l1, .inr (7, [.int (g.1 (11 + 1)), .int (g.1 (14 + 1)), .int (bI (!gThere g 1)), .int (g.1 (20 + 1))])), (l2, .inr (7, [.int (g.1 (11 + 2)), .int (g.1 (14 + 2)), .int (bI (!gThere g 2)), .int (g.1 (20 + 2))]))] H)) (SQi G (fun _ => False) sz (fun (r : Int32) (u : Unit) => r = (nI (wrF g mem w1 3))) (fun (u : Unit) => [])) (0) (0) (Fz (fun _ => False) sz) := by
  refine sp_of RX6 (by decide) rfl (Nat.le_of_ble_eq_true rfl) ?_
  intro p e s m args below meth c ls QQ hx hb hr hts hown hlocks hml hnm hsz hSep hΦ hE hS hl hQ
  subst hsz
  have hK := hE.1
  have hl : lv_has ls 8 [(0, .ref d), (1, .int (nI w1)), (2, .int x)] := hl
  subst hx9
  refine lv_iconst (v := (nI 0)) hx hb dX6_worth_0 (by decide) ?_
  refine lv_istore_n (lv' := [(3, .int (nI 0)), (0, .ref d), (1, .int (nI w1)), (2, .int (msk mem))]) hx hb dX6_worth_1 rfl hl (by decide) rfl (fun ls hl => ?_)
  refine lv_aload_n hx hb dX6_worth_2 rfl (lv_at hl 1 rfl) ?_
  refine va_get (D := G.1) (ci := 4) (v := .ref ll) (C := RX6) (T := TX6) (N := 10) hx hb hts in_X6 hown hK (ro0 hΦ hS) 0 rfl rfl 2 (by decide) (hts _ q879) (fun _ h9 => h9) rfl dX6_worth_3 ?_
  refine lv_astore (lv' := [(4, .ref ll), (3, .int (nI 0)), (0, .ref d), (1, .int (nI w1)), (2, .int (msk mem))]) hx hb dX6_worth_6 hl (by decide) rfl (fun ls hl => ?_)
  refine lv_aload hx hb dX6_worth_8 (lv_at hl 0 rfl) ?_
  refine va_alen (v := nI 3) hx hb hK ((ro0 hΦ hS).sub [1] rfl) 0 7 rfl rfl rfl dX6_worth_10 ?_
  refine lv_istore (lv' := [(5, .int (nI 3)), (4, .ref ll), (3, .int (nI 0)), (0, .ref d), (1, .int (nI w1)), (2, .int (msk mem))]) hx hb dX6_worth_11 hl (by decide) rfl (fun ls hl => ?_)
  refine lv_iconst (v := (nI 0)) hx hb dX6_worth_13 (by decide) ?_
  refine lv_istore (lv' := [(6, .int (nI 0)), (5, .int (nI 3)), (4, .ref ll), (3, .int (nI 0)), (0, .ref d), (1, .int (nI w1)), (2, .int (msk mem))]) hx hb dX6_worth_14 hl (by decide) rfl (fun ls hl => ?_)
  have L16 : ∀ (fu : Nat) (k : Nat) , 3 - k < fu → (k ≤ 3) → ∀ (H : Heap) (locs : List Loc) (ls : Array Slot), Sep G.1 clA (Fz (fun _ => False) s.heap.size) [] H → va_S (Fz (fun _ => False) s.heap.size) s.heap H locs → lv_has ls 8 [(6, .int (nI k)), (5, .int (nI 3)), (4, .ref ll), (3, .int (nI (wrF g mem w1 k))), (0, .ref d), (1, .int (nI w1)), (2, .int (msk mem))] → W p l e ({ frames := 2, cells := 0, slots := 0, locals := 41 } : Room) s m args below meth c H locs (0) (0) QQ (F0 m 16 ls []) := by
    intro fu
    induction fu with
    | zero => intro k hm; exact absurd hm (Nat.not_lt_zero _)
    | succ fu ih16 =>
      intro k hm16 hp16_0 H locs ls hSep hS hl
      refine lv_iload hx hb dX6_worth_16 (lv_at hl 0 rfl) ?_
      refine lv_iload hx hb dX6_worth_18 (lv_at hl 1 rfl) ?_
      refine n_icmp_ge (tgt := 59) hx hb (by omega) (by omega) dX6_worth_20 (by decide) (fun c20 => ?_) (fun c20 => ?_)
      · obtain rfl : k = 3 := by omega
        refine lv_iload_n hx hb dX6_worth_59 rfl (lv_at hl 3 rfl) ?_
        rw [hQ]
        exact r_i (r := (nI (wrF g mem w1 3))) (u := ()) hx hb hr (rfl) hSep hS (by first | exact Nat.le_of_ble_eq_true rfl | omega | (dsimp only; omega)) (by first | exact Nat.le_of_ble_eq_true rfl | omega | (dsimp only; omega)) dX6_worth_60 hlocks
      · rcases (show k = 0 ∨ k = 1 ∨ k = 2 by omega) with rfl | rfl | rfl
        · refine lv_aload hx hb dX6_worth_23 (lv_at hl 2 rfl) ?_
          refine lv_iload hx hb dX6_worth_25 (lv_at hl 0 rfl) ?_
          refine n_aald (i := 0) hx hb hK ((ro0 hΦ hS).sub [1] rfl) 7 rfl (by omega) (by omega) dX6_worth_27 ?_
          refine n_eqv (y := .ref l0) (by rw [hL0]; rfl) ?_
          refine lv_astore (lv' := [(7, .ref l0), (6, .int (nI 0)), (5, .int (nI 3)), (4, .ref ll), (3, .int (nI (wrF g mem w1 0))), (0, .ref d), (1, .int (nI w1)), (2, .int (msk mem))]) hx hb dX6_worth_28 hl (by decide) rfl (fun ls hl => ?_)
          refine lv_iload_n hx hb dX6_worth_30 rfl (lv_at hl 4 rfl) ?_
          refine lv_iload_n hx hb dX6_worth_31 rfl (lv_at hl 7 rfl) ?_
          refine lv_iload_n hx hb dX6_worth_32 rfl (lv_at hl 6 rfl) ?_
          have hFk_1 : ∀ q, Fz (fun _ => False) H.size q → (Fz (fun _ => False) s.heap.size) q := fun q h => by rcases h with h | h; exact h.elim; exact Fz.new (Nat.le_trans hS.1 h)
          have hPk_1 : Sep G.1 clA (Fz (fun _ => False) H.size) [] H := sp_nil
          have hJk_1 := sp_nilJ (F := (fun _ => False)) hSep (fun _ => id) hFk_1
          refine c_i (va_runSN (As := [.int (msk mem), .int (nI w1)]) (rest := [.int (nI (wrF g mem w1 0))]) ⟨hx, hb, hml, hown, hts⟩ (m_X1_has l G H.size (msk mem) w1 (by omega)) ⟨va_cnB 2 hts (lw_meth q173) rfl rfl rfl (hE.2.1 _ q976 rfl) (hts _ q39) (by decide +kernel) ⟨Nat.le_of_ble_eq_true rfl, Nat.le_of_ble_eq_true rfl⟩, hts _ q172, trivial⟩ (sp_preS hE hS hFk_1 hPk_1 trivial) rfl rfl hl.1 rfl (lv_room (Nat.le_of_ble_eq_true rfl)) dX6_worth_33 ⟨by first | exact Nat.le_of_ble_eq_true rfl | omega | (dsimp only; omega), by first | exact Nat.le_of_ble_eq_true rfl | omega | (dsimp only; omega)⟩) hS hFk_1 hJk_1 (fun r_2 u_3 H locs hpk_1 hSep hS hzk_1 => ?_)
          obtain rfl : r_2 = (bI (bitI (msk mem) w1)) := hpk_1
          refine W.cs (cells' := 0) (slots' := 0) rfl rfl ?_
          have hSep : Sep G.1 clA (Fz (fun _ => False) s.heap.size) [] H := hSep
          refine n_eq (y := (bI (decide (w1 ∈ mem)))) (by rw [bitI_msk (by omega), decide_eq_true hw, Bool.true_and]) ?_
          refine b_if_eq (tgt := 43) hx hb dX6_worth_36 (by decide) (fun c36 => ?_) (fun c36 => ?_)
          · refine lv_aload hx hb dX6_worth_43 (lv_at hl 0 rfl) ?_
            refine lv_iconst (v := (nI 1)) hx hb dX6_worth_45 (by decide) ?_
            refine lv_iload_n hx hb dX6_worth_46 rfl (lv_at hl 6 rfl) ?_
            refine lv_ishl hx hb dX6_worth_47 ?_
            have hFk_4 : ∀ q, Fz (fun _ => False) H.size q → (Fz (fun _ => False) s.heap.size) q := fun q h => by rcases h with h | h; exact h.elim; exact Fz.new (Nat.le_trans hS.1 h)
            have hPk_4 : Sep G.1 clA (Fz (fun _ => False) H.size) [] H := sp_nil
            have hJk_4 := sp_nilJ (F := (fun _ => False)) hSep (fun _ => id) hFk_4
            refine c_i (va_runV (As := [.int ((nI 1) <<< ((nI w1) &&& 31))]) (rest := [.int (nI (wrF g mem w1 0))]) ⟨hx, hb, hml, hown, hts⟩ (m_X9_gives l G H.size l0 (g.1 (11 + 0)) (g.1 (14 + 0)) (!gThere g 0) (g.1 (20 + 0)) ((nI 1) <<< ((nI w1) &&& 31)) (fun v => decide (v = w1)) (one_mkS hw)) (cwV 1 hts (lw_V q1024 q1025 q1026 q66 q1027) rfl rfl rfl (by decide +kernel) ⟨Nat.le_of_ble_eq_true rfl, Nat.le_of_ble_eq_true rfl⟩) (sp_preV hE hS hFk_4 hPk_4 ((ro0 hΦ hS).sub [2] rfl) (sp_recv (ci := 7) hK ((ro0 hΦ hS).sub [2] rfl) rfl)) rfl rfl hl.1 rfl (lv_room (Nat.le_of_ble_eq_true rfl)) dX6_worth_48 ⟨by first | exact Nat.le_of_ble_eq_true rfl | omega | (dsimp only; omega), by first | exact Nat.le_of_ble_eq_true rfl | omega | (dsimp only; omega)⟩) hS hFk_4 hJk_4 (fun r_5 u_6 H locs hpk_4 hSep hS hzk_4 => ?_)
            obtain rfl : r_5 = (nI (gvN (!gThere g 0) (g.1 (11 + 0)) (fun v => decide (v = w1)))) := hpk_4
            refine W.cs (cells' := 0) (slots' := 0) rfl rfl ?_
            have hSep : Sep G.1 clA (Fz (fun _ => False) s.heap.size) [] H := hSep
            refine n_iadd hx hb dX6_worth_51 ?_
            refine n_eq (y := (nI (wrF g mem w1 (0 + 1)))) (congrArg nI (by first | exact wrF_t (of_decide_eq_true c36) | exact wrF_f (of_decide_eq_false c36))) ?_
            refine lv_istore_n (lv' := [(3, .int (nI (wrF g mem w1 (0 + 1)))), (7, .ref l0), (6, .int (nI 0)), (5, .int (nI 3)), (4, .ref ll), (0, .ref d), (1, .int (nI w1)), (2, .int (msk mem))]) hx hb dX6_worth_52 rfl hl (by decide) rfl (fun ls hl => ?_)
            refine lv_iinc (v := (nI (0 + 1))) (lv' := [(6, .int (nI (0 + 1))), (3, .int (nI (wrF g mem w1 (0 + 1)))), (7, .ref l0), (5, .int (nI 3)), (4, .ref ll), (0, .ref d), (1, .int (nI w1)), (2, .int (msk mem))]) hx hb dX6_worth_53 hl (k := 2) rfl (nI_inc 0 1) (by decide) rfl (fun ls hl => ?_)
            refine lv_goto (tgt := 16) hx hb dX6_worth_56 (by decide) ?_
            exact ih16 (0 + 1) (by omega) (by omega) _ _ _ hSep hS (lv_sub hl [0, 3, 4, 1, 5, 6, 7] rfl)
          · refine lv_iconst (v := (nI 0)) hx hb dX6_worth_39 (by decide) ?_
            refine lv_goto (tgt := 51) hx hb dX6_worth_40 (by decide) ?_
            refine n_iadd hx hb dX6_worth_51 ?_
            refine n_eq (y := (nI (wrF g mem w1 (0 + 1)))) (congrArg nI (by first | exact wrF_t (of_decide_eq_true c36) | exact wrF_f (of_decide_eq_false c36))) ?_
            refine lv_istore_n (lv' := [(3, .int (nI (wrF g mem w1 (0 + 1)))), (7, .ref l0), (6, .int (nI 0)), (5, .int (nI 3)), (4, .ref ll), (0, .ref d), (1, .int (nI w1)), (2, .int (msk mem))]) hx hb dX6_worth_52 rfl hl (by decide) rfl (fun ls hl => ?_)
            refine lv_iinc (v := (nI (0 + 1))) (lv' := [(6, .int (nI (0 + 1))), (3, .int (nI (wrF g mem w1 (0 + 1)))), (7, .ref l0), (5, .int (nI 3)), (4, .ref ll), (0, .ref d), (1, .int (nI w1)), (2, .int (msk mem))]) hx hb dX6_worth_53 hl (k := 2) rfl (nI_inc 0 1) (by decide) rfl (fun ls hl => ?_)
            refine lv_goto (tgt := 16) hx hb dX6_worth_56 (by decide) ?_
            exact ih16 (0 + 1) (by omega) (by omega) _ _ _ hSep hS (lv_sub hl [0, 3, 4, 1, 5, 6, 7] rfl)
        · refine lv_aload hx hb dX6_worth_23 (lv_at hl 2 rfl) ?_
          refine lv_iload hx hb dX6_worth_25 (lv_at hl 0 rfl) ?_
          refine n_aald (i := 1) hx hb hK ((ro0 hΦ hS).sub [1] rfl) 7 rfl (by omega) (by omega) dX6_worth_27 ?_
          refine n_eqv (y := .ref l1) (by rw [hL1]; rfl) ?_
          refine lv_astore (lv' := [(7, .ref l1), (6, .int (nI 1)), (5, .int (nI 3)), (4, .ref ll), (3, .int (nI (wrF g mem w1 1))), (0, .ref d), (1, .int (nI w1)), (2, .int (msk mem))]) hx hb dX6_worth_28 hl (by decide) rfl (fun ls hl => ?_)
          refine lv_iload_n hx hb dX6_worth_30 rfl (lv_at hl 4 rfl) ?_
          refine lv_iload_n hx hb dX6_worth_31 rfl (lv_at hl 7 rfl) ?_
          refine lv_iload_n hx hb dX6_worth_32 rfl (lv_at hl 6 rfl) ?_
          have hFk_7 : ∀ q, Fz (fun _ => False) H.size q → (Fz (fun _ => False) s.heap.size) q := fun q h => by rcases h with h | h; exact h.elim; exact Fz.new (Nat.le_trans hS.1 h)
          have hPk_7 : Sep G.1 clA (Fz (fun _ => False) H.size) [] H := sp_nil
          have hJk_7 := sp_nilJ (F := (fun _ => False)) hSep (fun _ => id) hFk_7
          refine c_i (va_runSN (As := [.int (msk mem), .int (nI w1)]) (rest := [.int (nI (wrF g mem w1 1))]) ⟨hx, hb, hml, hown, hts⟩ (m_X1_has l G H.size (msk mem) w1 (by omega)) ⟨va_cnB 2 hts (lw_meth q173) rfl rfl rfl (hE.2.1 _ q976 rfl) (hts _ q39) (by decide +kernel) ⟨Nat.le_of_ble_eq_true rfl, Nat.le_of_ble_eq_true rfl⟩, hts _ q172, trivial⟩ (sp_preS hE hS hFk_7 hPk_7 trivial) rfl rfl hl.1 rfl (lv_room (Nat.le_of_ble_eq_true rfl)) dX6_worth_33 ⟨by first | exact Nat.le_of_ble_eq_true rfl | omega | (dsimp only; omega), by first | exact Nat.le_of_ble_eq_true rfl | omega | (dsimp only; omega)⟩) hS hFk_7 hJk_7 (fun r_8 u_9 H locs hpk_7 hSep hS hzk_7 => ?_)
          obtain rfl : r_8 = (bI (bitI (msk mem) w1)) := hpk_7
          refine W.cs (cells' := 0) (slots' := 0) rfl rfl ?_
          have hSep : Sep G.1 clA (Fz (fun _ => False) s.heap.size) [] H := hSep
          refine n_eq (y := (bI (decide (w1 ∈ mem)))) (by rw [bitI_msk (by omega), decide_eq_true hw, Bool.true_and]) ?_
          refine b_if_eq (tgt := 43) hx hb dX6_worth_36 (by decide) (fun c36 => ?_) (fun c36 => ?_)
          · refine lv_aload hx hb dX6_worth_43 (lv_at hl 0 rfl) ?_
            refine lv_iconst (v := (nI 1)) hx hb dX6_worth_45 (by decide) ?_
            refine lv_iload_n hx hb dX6_worth_46 rfl (lv_at hl 6 rfl) ?_
            refine lv_ishl hx hb dX6_worth_47 ?_
            have hFk_10 : ∀ q, Fz (fun _ => False) H.size q → (Fz (fun _ => False) s.heap.size) q := fun q h => by rcases h with h | h; exact h.elim; exact Fz.new (Nat.le_trans hS.1 h)
            have hPk_10 : Sep G.1 clA (Fz (fun _ => False) H.size) [] H := sp_nil
            have hJk_10 := sp_nilJ (F := (fun _ => False)) hSep (fun _ => id) hFk_10
            refine c_i (va_runV (As := [.int ((nI 1) <<< ((nI w1) &&& 31))]) (rest := [.int (nI (wrF g mem w1 1))]) ⟨hx, hb, hml, hown, hts⟩ (m_X9_gives l G H.size l1 (g.1 (11 + 1)) (g.1 (14 + 1)) (!gThere g 1) (g.1 (20 + 1)) ((nI 1) <<< ((nI w1) &&& 31)) (fun v => decide (v = w1)) (one_mkS hw)) (cwV 1 hts (lw_V q1024 q1025 q1026 q66 q1027) rfl rfl rfl (by decide +kernel) ⟨Nat.le_of_ble_eq_true rfl, Nat.le_of_ble_eq_true rfl⟩) (sp_preV hE hS hFk_10 hPk_10 ((ro0 hΦ hS).sub [3] rfl) (sp_recv (ci := 7) hK ((ro0 hΦ hS).sub [3] rfl) rfl)) rfl rfl hl.1 rfl (lv_room (Nat.le_of_ble_eq_true rfl)) dX6_worth_48 ⟨by first | exact Nat.le_of_ble_eq_true rfl | omega | (dsimp only; omega), by first | exact Nat.le_of_ble_eq_true rfl | omega | (dsimp only; omega)⟩) hS hFk_10 hJk_10 (fun r_11 u_12 H locs hpk_10 hSep hS hzk_10 => ?_)
            obtain rfl : r_11 = (nI (gvN (!gThere g 1) (g.1 (11 + 1)) (fun v => decide (v = w1)))) := hpk_10
            refine W.cs (cells' := 0) (slots' := 0) rfl rfl ?_
            have hSep : Sep G.1 clA (Fz (fun _ => False) s.heap.size) [] H := hSep
            refine n_iadd hx hb dX6_worth_51 ?_
            refine n_eq (y := (nI (wrF g mem w1 (1 + 1)))) (congrArg nI (by first | exact wrF_t (of_decide_eq_true c36) | exact wrF_f (of_decide_eq_false c36))) ?_
            refine lv_istore_n (lv' := [(3, .int (nI (wrF g mem w1 (1 + 1)))), (7, .ref l1), (6, .int (nI 1)), (5, .int (nI 3)), (4, .ref ll), (0, .ref d), (1, .int (nI w1)), (2, .int (msk mem))]) hx hb dX6_worth_52 rfl hl (by decide) rfl (fun ls hl => ?_)
            refine lv_iinc (v := (nI (1 + 1))) (lv' := [(6, .int (nI (1 + 1))), (3, .int (nI (wrF g mem w1 (1 + 1)))), (7, .ref l1), (5, .int (nI 3)), (4, .ref ll), (0, .ref d), (1, .int (nI w1)), (2, .int (msk mem))]) hx hb dX6_worth_53 hl (k := 2) rfl (nI_inc 1 1) (by decide) rfl (fun ls hl => ?_)
            refine lv_goto (tgt := 16) hx hb dX6_worth_56 (by decide) ?_
            exact ih16 (1 + 1) (by omega) (by omega) _ _ _ hSep hS (lv_sub hl [0, 3, 4, 1, 5, 6, 7] rfl)
          · refine lv_iconst (v := (nI 0)) hx hb dX6_worth_39 (by decide) ?_
            refine lv_goto (tgt := 51) hx hb dX6_worth_40 (by decide) ?_
            refine n_iadd hx hb dX6_worth_51 ?_
            refine n_eq (y := (nI (wrF g mem w1 (1 + 1)))) (congrArg nI (by first | exact wrF_t (of_decide_eq_true c36) | exact wrF_f (of_decide_eq_false c36))) ?_
            refine lv_istore_n (lv' := [(3, .int (nI (wrF g mem w1 (1 + 1)))), (7, .ref l1), (6, .int (nI 1)), (5, .int (nI 3)), (4, .ref ll), (0, .ref d), (1, .int (nI w1)), (2, .int (msk mem))]) hx hb dX6_worth_52 rfl hl (by decide) rfl (fun ls hl => ?_)
            refine lv_iinc (v := (nI (1 + 1))) (lv' := [(6, .int (nI (1 + 1))), (3, .int (nI (wrF g mem w1 (1 + 1)))), (7, .ref l1), (5, .int (nI 3)), (4, .ref ll), (0, .ref d), (1, .int (nI w1)), (2, .int (msk mem))]) hx hb dX6_worth_53 hl (k := 2) rfl (nI_inc 1 1) (by decide) rfl (fun ls hl => ?_)
            refine lv_goto (tgt := 16) hx hb dX6_worth_56 (by decide) ?_
            exact ih16 (1 + 1) (by omega) (by omega) _ _ _ hSep hS (lv_sub hl [0, 3, 4, 1, 5, 6, 7] rfl)
        · refine lv_aload hx hb dX6_worth_23 (lv_at hl 2 rfl) ?_
          refine lv_iload hx hb dX6_worth_25 (lv_at hl 0 rfl) ?_
          refine n_aald (i := 2) hx hb hK ((ro0 hΦ hS).sub [1] rfl) 7 rfl (by omega) (by omega) dX6_worth_27 ?_
          refine n_eqv (y := .ref l2) (by rw [hL2]; rfl) ?_
          refine lv_astore (lv' := [(7, .ref l2), (6, .int (nI 2)), (5, .int (nI 3)), (4, .ref ll), (3, .int (nI (wrF g mem w1 2))), (0, .ref d), (1, .int (nI w1)), (2, .int (msk mem))]) hx hb dX6_worth_28 hl (by decide) rfl (fun ls hl => ?_)
          refine lv_iload_n hx hb dX6_worth_30 rfl (lv_at hl 4 rfl) ?_
          refine lv_iload_n hx hb dX6_worth_31 rfl (lv_at hl 7 rfl) ?_
          refine lv_iload_n hx hb dX6_worth_32 rfl (lv_at hl 6 rfl) ?_
          have hFk_13 : ∀ q, Fz (fun _ => False) H.size q → (Fz (fun _ => False) s.heap.size) q := fun q h => by rcases h with h | h; exact h.elim; exact Fz.new (Nat.le_trans hS.1 h)
          have hPk_13 : Sep G.1 clA (Fz (fun _ => False) H.size) [] H := sp_nil
          have hJk_13 := sp_nilJ (F := (fun _ => False)) hSep (fun _ => id) hFk_13
          refine c_i (va_runSN (As := [.int (msk mem), .int (nI w1)]) (rest := [.int (nI (wrF g mem w1 2))]) ⟨hx, hb, hml, hown, hts⟩ (m_X1_has l G H.size (msk mem) w1 (by omega)) ⟨va_cnB 2 hts (lw_meth q173) rfl rfl rfl (hE.2.1 _ q976 rfl) (hts _ q39) (by decide +kernel) ⟨Nat.le_of_ble_eq_true rfl, Nat.le_of_ble_eq_true rfl⟩, hts _ q172, trivial⟩ (sp_preS hE hS hFk_13 hPk_13 trivial) rfl rfl hl.1 rfl (lv_room (Nat.le_of_ble_eq_true rfl)) dX6_worth_33 ⟨by first | exact Nat.le_of_ble_eq_true rfl | omega | (dsimp only; omega), by first | exact Nat.le_of_ble_eq_true rfl | omega | (dsimp only; omega)⟩) hS hFk_13 hJk_13 (fun r_14 u_15 H locs hpk_13 hSep hS hzk_13 => ?_)
          obtain rfl : r_14 = (bI (bitI (msk mem) w1)) := hpk_13
          refine W.cs (cells' := 0) (slots' := 0) rfl rfl ?_
          have hSep : Sep G.1 clA (Fz (fun _ => False) s.heap.size) [] H := hSep
          refine n_eq (y := (bI (decide (w1 ∈ mem)))) (by rw [bitI_msk (by omega), decide_eq_true hw, Bool.true_and]) ?_
          refine b_if_eq (tgt := 43) hx hb dX6_worth_36 (by decide) (fun c36 => ?_) (fun c36 => ?_)
          · refine lv_aload hx hb dX6_worth_43 (lv_at hl 0 rfl) ?_
            refine lv_iconst (v := (nI 1)) hx hb dX6_worth_45 (by decide) ?_
            refine lv_iload_n hx hb dX6_worth_46 rfl (lv_at hl 6 rfl) ?_
            refine lv_ishl hx hb dX6_worth_47 ?_
            have hFk_16 : ∀ q, Fz (fun _ => False) H.size q → (Fz (fun _ => False) s.heap.size) q := fun q h => by rcases h with h | h; exact h.elim; exact Fz.new (Nat.le_trans hS.1 h)
            have hPk_16 : Sep G.1 clA (Fz (fun _ => False) H.size) [] H := sp_nil
            have hJk_16 := sp_nilJ (F := (fun _ => False)) hSep (fun _ => id) hFk_16
            refine c_i (va_runV (As := [.int ((nI 1) <<< ((nI w1) &&& 31))]) (rest := [.int (nI (wrF g mem w1 2))]) ⟨hx, hb, hml, hown, hts⟩ (m_X9_gives l G H.size l2 (g.1 (11 + 2)) (g.1 (14 + 2)) (!gThere g 2) (g.1 (20 + 2)) ((nI 1) <<< ((nI w1) &&& 31)) (fun v => decide (v = w1)) (one_mkS hw)) (cwV 1 hts (lw_V q1024 q1025 q1026 q66 q1027) rfl rfl rfl (by decide +kernel) ⟨Nat.le_of_ble_eq_true rfl, Nat.le_of_ble_eq_true rfl⟩) (sp_preV hE hS hFk_16 hPk_16 ((ro0 hΦ hS).sub [4] rfl) (sp_recv (ci := 7) hK ((ro0 hΦ hS).sub [4] rfl) rfl)) rfl rfl hl.1 rfl (lv_room (Nat.le_of_ble_eq_true rfl)) dX6_worth_48 ⟨by first | exact Nat.le_of_ble_eq_true rfl | omega | (dsimp only; omega), by first | exact Nat.le_of_ble_eq_true rfl | omega | (dsimp only; omega)⟩) hS hFk_16 hJk_16 (fun r_17 u_18 H locs hpk_16 hSep hS hzk_16 => ?_)
            obtain rfl : r_17 = (nI (gvN (!gThere g 2) (g.1 (11 + 2)) (fun v => decide (v = w1)))) := hpk_16
            refine W.cs (cells' := 0) (slots' := 0) rfl rfl ?_
            have hSep : Sep G.1 clA (Fz (fun _ => False) s.heap.size) [] H := hSep
            refine n_iadd hx hb dX6_worth_51 ?_
            refine n_eq (y := (nI (wrF g mem w1 (2 + 1)))) (congrArg nI (by first | exact wrF_t (of_decide_eq_true c36) | exact wrF_f (of_decide_eq_false c36))) ?_
            refine lv_istore_n (lv' := [(3, .int (nI (wrF g mem w1 (2 + 1)))), (7, .ref l2), (6, .int (nI 2)), (5, .int (nI 3)), (4, .ref ll), (0, .ref d), (1, .int (nI w1)), (2, .int (msk mem))]) hx hb dX6_worth_52 rfl hl (by decide) rfl (fun ls hl => ?_)
            refine lv_iinc (v := (nI (2 + 1))) (lv' := [(6, .int (nI (2 + 1))), (3, .int (nI (wrF g mem w1 (2 + 1)))), (7, .ref l2), (5, .int (nI 3)), (4, .ref ll), (0, .ref d), (1, .int (nI w1)), (2, .int (msk mem))]) hx hb dX6_worth_53 hl (k := 2) rfl (nI_inc 2 1) (by decide) rfl (fun ls hl => ?_)
            refine lv_goto (tgt := 16) hx hb dX6_worth_56 (by decide) ?_
            exact ih16 (2 + 1) (by omega) (by omega) _ _ _ hSep hS (lv_sub hl [0, 3, 4, 1, 5, 6, 7] rfl)
          · refine lv_iconst (v := (nI 0)) hx hb dX6_worth_39 (by decide) ?_
            refine lv_goto (tgt := 51) hx hb dX6_worth_40 (by decide) ?_
            refine n_iadd hx hb dX6_worth_51 ?_
            refine n_eq (y := (nI (wrF g mem w1 (2 + 1)))) (congrArg nI (by first | exact wrF_t (of_decide_eq_true c36) | exact wrF_f (of_decide_eq_false c36))) ?_
            refine lv_istore_n (lv' := [(3, .int (nI (wrF g mem w1 (2 + 1)))), (7, .ref l2), (6, .int (nI 2)), (5, .int (nI 3)), (4, .ref ll), (0, .ref d), (1, .int (nI w1)), (2, .int (msk mem))]) hx hb dX6_worth_52 rfl hl (by decide) rfl (fun ls hl => ?_)
            refine lv_iinc (v := (nI (2 + 1))) (lv' := [(6, .int (nI (2 + 1))), (3, .int (nI (wrF g mem w1 (2 + 1)))), (7, .ref l2), (5, .int (nI 3)), (4, .ref ll), (0, .ref d), (1, .int (nI w1)), (2, .int (msk mem))]) hx hb dX6_worth_53 hl (k := 2) rfl (nI_inc 2 1) (by decide) rfl (fun ls hl => ?_)
            refine lv_goto (tgt := 16) hx hb dX6_worth_56 (by decide) ?_
            exact ih16 (2 + 1) (by omega) (by omega) _ _ _ hSep hS (lv_sub hl [0, 3, 4, 1, 5, 6, 7] rfl)
  exact L16 (3 - 0 + 1) 0 (Nat.lt_succ_self _) (by omega) _ _ _ hSep hS (lv_sub hl [0, 1, 2, 3, 4, 5, 6] rfl)

set_option maxHeartbeats 600000 in
set_option maxRecDepth 100000 in
theorem m_X6_points (l : Launch) (G : EVT) (sz : Nat) (d : Nat) (st : Nat) (tl : Nat) (ll : Nat) (to : Nat) (se : Int32) (tv : Nat) (tu : Int32) (sp : Bool) (ps : Bool) (ov : Bool) (fL : Nat → Option Nat) (l0 : Nat) (l1 : Nat) (l2 : Nat) (g : GS) (fS : Nat → Int32) (Z : List (Nat × List Nat)) (lg : List (List Nat)) (m0 : Nat) (x : Int32) (ws : List Nat) (hL0 : fL 0 = some l0) (hL1 : fL 1 = some l1) (hL2 : fL 2 = some l2) (hm : fS 0 = nI m0) (hm6 : m0 ≤ 6) (hl6 : lg.length ≤ 6) (hx9 : x = msk ws) : Met l yX6_points (ws_ yX6_points cX6_points 8 (some .int)) ({ frames := 5, cells := 0, slots := 0, locals := 107 } : Room) (SPc G (fun _ => False) sz [.ref d, .int x] [] (fun H => va_P G.1 clA [(d, .inr (4, [.ref st, .ref tl, .ref ll, .ref to, .int se, .int (nI tv), .int tu, .int (bI sp), .int (bI ps), .int (bI ov)])), (st, .inl (G.2.1 0, 4, .inl fS)), (ll, .inl (G.2.1 7, 3, .inr (.inr (.inr (.inr fL))))), (l0, .inr (7, [.int (g.1 (11 + 0)), .int (g.1 (14 + 0)), .int (bI (!gThere g 0)), .int (g.1 (20 + 0))])), (l1, .inr (7, [.int (g.1 (11 + 1)), .int (g.1 (14 + 1)), .int (bI (!gThere g 1)), .int (g.1 (20 + 1))])), (l2, .inr (7, [.int (g.1 (11 + 2)), .int (g.1 (14 + 2)), .int (bI (!gThere g 2)), .int (g.1 (20 + 2))]))] H ∧ Hol G.1 clA (stoA G Z to lg) H ∧ Hol G.1 clA (frozA G Z) H)) (SQi G (fun _ => False) sz (fun (r : Int32) (u : Unit) => r = (nI (ptF g (ws.filter (fun w => !decide (w ∈ (lg.take m0).flatten))) 3))) (fun (u : Unit) => [])) (0) (0) (Fz (fun _ => False) sz) := by
  refine sp_of RX6 (by decide) rfl (Nat.le_of_ble_eq_true rfl) ?_
  intro p e s m args below meth c ls QQ hx hb hr hts hown hlocks hml hnm hsz hSep hΦ hE hS hl hQ
  subst hsz
  have hK := hE.1
  have hl : lv_has ls 8 [(0, .ref d), (1, .int x)] := hl
  subst hx9
  refine lv_iload_n hx hb dX6_points_0 rfl (lv_at hl 1 rfl) ?_
  refine lv_aload_n hx hb dX6_points_1 rfl (lv_at hl 0 rfl) ?_
  have hFk_1 : ∀ q, Fz (fun _ => False) s.heap.size q → (Fz (fun _ => False) s.heap.size) q := fun q h => by rcases h with h | h; exact h.elim; exact Fz.new (Nat.le_trans hS.1 h)
  have hPk_1 : Sep G.1 clA (Fz (fun _ => False) s.heap.size) [] s.heap := sp_nil
  have hJk_1 := sp_nilJ (F := (fun _ => False)) hSep (fun _ => id) hFk_1
  refine c_i (va_runV (As := []) (rest := [.int (msk ws)]) ⟨hx, hb, hml, hown, hts⟩ (m_X6_memory l G s.heap.size d st tl ll to se tv tu sp ps ov fS Z lg m0 (by first | assumption | omega) (by first | assumption | omega) (by first | assumption | omega)) (cwV 0 hts (lw_V q1240 q1016 q1017 q60 q1018) rfl rfl rfl (by decide +kernel) ⟨Nat.le_of_ble_eq_true rfl, Nat.le_of_ble_eq_true rfl⟩) (sp_preV hE hS hFk_1 hPk_1 ⟨(va_P.app ((ro0 hΦ.1 hS).sub [0] rfl) ((ro0 hΦ.1 hS).sub [1] rfl)), ⟨ro1 hΦ.2.1 hS, ro1 hΦ.2.2 hS⟩⟩ (sp_recv (ci := 4) hK ((ro0 hΦ.1 hS).sub [0] rfl) rfl)) rfl rfl hl.1 rfl (lv_room (Nat.le_of_ble_eq_true rfl)) dX6_points_2 ⟨by first | exact Nat.le_of_ble_eq_true rfl | omega | (dsimp only; omega), by first | exact Nat.le_of_ble_eq_true rfl | omega | (dsimp only; omega)⟩) hS hFk_1 hJk_1 (fun r_2 u_3 H locs hpk_1 hSep hS hzk_1 => ?_)
  obtain rfl : r_2 = (msk ((lg.take m0).flatten)) := hpk_1
  refine W.cs (cells' := 0) (slots' := 0) rfl rfl ?_
  have hSep : Sep G.1 clA (Fz (fun _ => False) s.heap.size) [] H := hSep
  refine lv_iconst (v := (-1)) hx hb dX6_points_5 (by decide) ?_
  refine lv_ixor hx hb dX6_points_6 ?_
  refine lv_iand hx hb dX6_points_7 ?_
  refine n_eq (y := (msk (ws.filter (fun w => !decide (w ∈ (lg.take m0).flatten))))) (msk_diff) ?_
  refine lv_istore_n (lv' := [(2, .int (msk (ws.filter (fun w => !decide (w ∈ (lg.take m0).flatten))))), (0, .ref d), (1, .int (msk ws))]) hx hb dX6_points_8 rfl hl (by decide) rfl (fun ls hl => ?_)
  refine lv_iconst (v := (nI 0)) hx hb dX6_points_9 (by decide) ?_
  refine lv_istore_n (lv' := [(3, .int (nI 0)), (2, .int (msk (ws.filter (fun w => !decide (w ∈ (lg.take m0).flatten))))), (0, .ref d), (1, .int (msk ws))]) hx hb dX6_points_10 rfl hl (by decide) rfl (fun ls hl => ?_)
  refine lv_aload_n hx hb dX6_points_11 rfl (lv_at hl 2 rfl) ?_
  refine va_get (D := G.1) (ci := 4) (v := .ref ll) (C := RX6) (T := TX6) (N := 10) hx hb hts in_X6 hown hK (ro0 hΦ.1 hS) 0 rfl rfl 2 (by decide) (hts _ q879) (fun _ h9 => h9) rfl dX6_points_12 ?_
  refine lv_astore (lv' := [(4, .ref ll), (3, .int (nI 0)), (2, .int (msk (ws.filter (fun w => !decide (w ∈ (lg.take m0).flatten))))), (0, .ref d), (1, .int (msk ws))]) hx hb dX6_points_15 hl (by decide) rfl (fun ls hl => ?_)
  refine lv_aload hx hb dX6_points_17 (lv_at hl 0 rfl) ?_
  refine va_alen (v := nI 3) hx hb hK ((ro0 hΦ.1 hS).sub [2] rfl) 0 7 rfl rfl rfl dX6_points_19 ?_
  refine lv_istore (lv' := [(5, .int (nI 3)), (4, .ref ll), (3, .int (nI 0)), (2, .int (msk (ws.filter (fun w => !decide (w ∈ (lg.take m0).flatten))))), (0, .ref d), (1, .int (msk ws))]) hx hb dX6_points_20 hl (by decide) rfl (fun ls hl => ?_)
  refine lv_iconst (v := (nI 0)) hx hb dX6_points_22 (by decide) ?_
  refine lv_istore (lv' := [(6, .int (nI 0)), (5, .int (nI 3)), (4, .ref ll), (3, .int (nI 0)), (2, .int (msk (ws.filter (fun w => !decide (w ∈ (lg.take m0).flatten))))), (0, .ref d), (1, .int (msk ws))]) hx hb dX6_points_23 hl (by decide) rfl (fun ls hl => ?_)
  have L25 : ∀ (fu : Nat) (k : Nat) , 3 - k < fu → (k ≤ 3) → ∀ (H : Heap) (locs : List Loc) (ls : Array Slot), Sep G.1 clA (Fz (fun _ => False) s.heap.size) [] H → va_S (Fz (fun _ => False) s.heap.size) s.heap H locs → lv_has ls 8 [(6, .int (nI k)), (5, .int (nI 3)), (4, .ref ll), (3, .int (nI (ptF g (ws.filter (fun w => !decide (w ∈ (lg.take m0).flatten))) k))), (2, .int (msk (ws.filter (fun w => !decide (w ∈ (lg.take m0).flatten))))), (0, .ref d), (1, .int (msk ws))] → W p l e ({ frames := 5, cells := 0, slots := 0, locals := 107 } : Room) s m args below meth c H locs (0) (0) QQ (F0 m 25 ls []) := by
    intro fu
    induction fu with
    | zero => intro k hm; exact absurd hm (Nat.not_lt_zero _)
    | succ fu ih25 =>
      intro k hm25 hp25_0 H locs ls hSep hS hl
      refine lv_iload hx hb dX6_points_25 (lv_at hl 0 rfl) ?_
      refine lv_iload hx hb dX6_points_27 (lv_at hl 1 rfl) ?_
      refine n_icmp_ge (tgt := 54) hx hb (by omega) (by omega) dX6_points_29 (by decide) (fun c29 => ?_) (fun c29 => ?_)
      · obtain rfl : k = 3 := by omega
        refine lv_iload_n hx hb dX6_points_54 rfl (lv_at hl 3 rfl) ?_
        rw [hQ]
        exact r_i (r := (nI (ptF g (ws.filter (fun w => !decide (w ∈ (lg.take m0).flatten))) 3))) (u := ()) hx hb hr (rfl) hSep hS (by first | exact Nat.le_of_ble_eq_true rfl | omega | (dsimp only; omega)) (by first | exact Nat.le_of_ble_eq_true rfl | omega | (dsimp only; omega)) dX6_points_55 hlocks
      · rcases (show k = 0 ∨ k = 1 ∨ k = 2 by omega) with rfl | rfl | rfl
        · refine lv_aload hx hb dX6_points_32 (lv_at hl 2 rfl) ?_
          refine lv_iload hx hb dX6_points_34 (lv_at hl 0 rfl) ?_
          refine n_aald (i := 0) hx hb hK ((ro0 hΦ.1 hS).sub [2] rfl) 7 rfl (by omega) (by omega) dX6_points_36 ?_
          refine n_eqv (y := .ref l0) (by rw [hL0]; rfl) ?_
          refine lv_astore (lv' := [(7, .ref l0), (6, .int (nI 0)), (5, .int (nI 3)), (4, .ref ll), (3, .int (nI (ptF g (ws.filter (fun w => !decide (w ∈ (lg.take m0).flatten))) 0))), (2, .int (msk (ws.filter (fun w => !decide (w ∈ (lg.take m0).flatten))))), (0, .ref d), (1, .int (msk ws))]) hx hb dX6_points_37 hl (by decide) rfl (fun ls hl => ?_)
          refine lv_iload_n hx hb dX6_points_39 rfl (lv_at hl 4 rfl) ?_
          refine lv_aload hx hb dX6_points_40 (lv_at hl 0 rfl) ?_
          refine lv_iload_n hx hb dX6_points_42 rfl (lv_at hl 5 rfl) ?_
          have hFk_4 : ∀ q, Fz (fun _ => False) H.size q → (Fz (fun _ => False) s.heap.size) q := fun q h => by rcases h with h | h; exact h.elim; exact Fz.new (Nat.le_trans hS.1 h)
          have hPk_4 : Sep G.1 clA (Fz (fun _ => False) H.size) [] H := sp_nil
          have hJk_4 := sp_nilJ (F := (fun _ => False)) hSep (fun _ => id) hFk_4
          refine c_i (va_runV (As := [.int (msk (ws.filter (fun w => !decide (w ∈ (lg.take m0).flatten))))]) (rest := [.int (nI (ptF g (ws.filter (fun w => !decide (w ∈ (lg.take m0).flatten))) 0))]) ⟨hx, hb, hml, hown, hts⟩ (m_X9_gives l G H.size l0 (g.1 (11 + 0)) (g.1 (14 + 0)) (!gThere g 0) (g.1 (20 + 0)) (msk (ws.filter (fun w => !decide (w ∈ (lg.take m0).flatten)))) (fun w => decide (w ∈ ws.filter (fun w => !decide (w ∈ (lg.take m0).flatten)))) (rfl)) (cwV 1 hts (lw_V q1024 q1025 q1026 q66 q1027) rfl rfl rfl (by decide +kernel) ⟨Nat.le_of_ble_eq_true rfl, Nat.le_of_ble_eq_true rfl⟩) (sp_preV hE hS hFk_4 hPk_4 ((ro0 hΦ.1 hS).sub [3] rfl) (sp_recv (ci := 7) hK ((ro0 hΦ.1 hS).sub [3] rfl) rfl)) rfl rfl hl.1 rfl (lv_room (Nat.le_of_ble_eq_true rfl)) dX6_points_43 ⟨by first | exact Nat.le_of_ble_eq_true rfl | omega | (dsimp only; omega), by first | exact Nat.le_of_ble_eq_true rfl | omega | (dsimp only; omega)⟩) hS hFk_4 hJk_4 (fun r_5 u_6 H locs hpk_4 hSep hS hzk_4 => ?_)
          obtain rfl : r_5 = (nI (gvN (!gThere g 0) (g.1 (11 + 0)) (fun w => decide (w ∈ ws.filter (fun w => !decide (w ∈ (lg.take m0).flatten)))))) := hpk_4
          refine W.cs (cells' := 0) (slots' := 0) rfl rfl ?_
          have hSep : Sep G.1 clA (Fz (fun _ => False) s.heap.size) [] H := hSep
          refine n_iadd hx hb dX6_points_46 ?_
          refine n_eq (y := (nI (ptF g (ws.filter (fun w => !decide (w ∈ (lg.take m0).flatten))) (0 + 1)))) (rfl) ?_
          refine lv_istore_n (lv' := [(3, .int (nI (ptF g (ws.filter (fun w => !decide (w ∈ (lg.take m0).flatten))) (0 + 1)))), (7, .ref l0), (6, .int (nI 0)), (5, .int (nI 3)), (4, .ref ll), (2, .int (msk (ws.filter (fun w => !decide (w ∈ (lg.take m0).flatten))))), (0, .ref d), (1, .int (msk ws))]) hx hb dX6_points_47 rfl hl (by decide) rfl (fun ls hl => ?_)
          refine lv_iinc (v := (nI (0 + 1))) (lv' := [(6, .int (nI (0 + 1))), (3, .int (nI (ptF g (ws.filter (fun w => !decide (w ∈ (lg.take m0).flatten))) (0 + 1)))), (7, .ref l0), (5, .int (nI 3)), (4, .ref ll), (2, .int (msk (ws.filter (fun w => !decide (w ∈ (lg.take m0).flatten))))), (0, .ref d), (1, .int (msk ws))]) hx hb dX6_points_48 hl (k := 2) rfl (nI_inc 0 1) (by decide) rfl (fun ls hl => ?_)
          refine lv_goto (tgt := 25) hx hb dX6_points_51 (by decide) ?_
          exact ih25 (0 + 1) (by omega) (by omega) _ _ _ hSep hS (lv_sub hl [0, 3, 4, 1, 5, 6, 7] rfl)
        · refine lv_aload hx hb dX6_points_32 (lv_at hl 2 rfl) ?_
          refine lv_iload hx hb dX6_points_34 (lv_at hl 0 rfl) ?_
          refine n_aald (i := 1) hx hb hK ((ro0 hΦ.1 hS).sub [2] rfl) 7 rfl (by omega) (by omega) dX6_points_36 ?_
          refine n_eqv (y := .ref l1) (by rw [hL1]; rfl) ?_
          refine lv_astore (lv' := [(7, .ref l1), (6, .int (nI 1)), (5, .int (nI 3)), (4, .ref ll), (3, .int (nI (ptF g (ws.filter (fun w => !decide (w ∈ (lg.take m0).flatten))) 1))), (2, .int (msk (ws.filter (fun w => !decide (w ∈ (lg.take m0).flatten))))), (0, .ref d), (1, .int (msk ws))]) hx hb dX6_points_37 hl (by decide) rfl (fun ls hl => ?_)
          refine lv_iload_n hx hb dX6_points_39 rfl (lv_at hl 4 rfl) ?_
          refine lv_aload hx hb dX6_points_40 (lv_at hl 0 rfl) ?_
          refine lv_iload_n hx hb dX6_points_42 rfl (lv_at hl 5 rfl) ?_
          have hFk_7 : ∀ q, Fz (fun _ => False) H.size q → (Fz (fun _ => False) s.heap.size) q := fun q h => by rcases h with h | h; exact h.elim; exact Fz.new (Nat.le_trans hS.1 h)
          have hPk_7 : Sep G.1 clA (Fz (fun _ => False) H.size) [] H := sp_nil
          have hJk_7 := sp_nilJ (F := (fun _ => False)) hSep (fun _ => id) hFk_7
          refine c_i (va_runV (As := [.int (msk (ws.filter (fun w => !decide (w ∈ (lg.take m0).flatten))))]) (rest := [.int (nI (ptF g (ws.filter (fun w => !decide (w ∈ (lg.take m0).flatten))) 1))]) ⟨hx, hb, hml, hown, hts⟩ (m_X9_gives l G H.size l1 (g.1 (11 + 1)) (g.1 (14 + 1)) (!gThere g 1) (g.1 (20 + 1)) (msk (ws.filter (fun w => !decide (w ∈ (lg.take m0).flatten)))) (fun w => decide (w ∈ ws.filter (fun w => !decide (w ∈ (lg.take m0).flatten)))) (rfl)) (cwV 1 hts (lw_V q1024 q1025 q1026 q66 q1027) rfl rfl rfl (by decide +kernel) ⟨Nat.le_of_ble_eq_true rfl, Nat.le_of_ble_eq_true rfl⟩) (sp_preV hE hS hFk_7 hPk_7 ((ro0 hΦ.1 hS).sub [4] rfl) (sp_recv (ci := 7) hK ((ro0 hΦ.1 hS).sub [4] rfl) rfl)) rfl rfl hl.1 rfl (lv_room (Nat.le_of_ble_eq_true rfl)) dX6_points_43 ⟨by first | exact Nat.le_of_ble_eq_true rfl | omega | (dsimp only; omega), by first | exact Nat.le_of_ble_eq_true rfl | omega | (dsimp only; omega)⟩) hS hFk_7 hJk_7 (fun r_8 u_9 H locs hpk_7 hSep hS hzk_7 => ?_)
          obtain rfl : r_8 = (nI (gvN (!gThere g 1) (g.1 (11 + 1)) (fun w => decide (w ∈ ws.filter (fun w => !decide (w ∈ (lg.take m0).flatten)))))) := hpk_7
          refine W.cs (cells' := 0) (slots' := 0) rfl rfl ?_
          have hSep : Sep G.1 clA (Fz (fun _ => False) s.heap.size) [] H := hSep
          refine n_iadd hx hb dX6_points_46 ?_
          refine n_eq (y := (nI (ptF g (ws.filter (fun w => !decide (w ∈ (lg.take m0).flatten))) (1 + 1)))) (rfl) ?_
          refine lv_istore_n (lv' := [(3, .int (nI (ptF g (ws.filter (fun w => !decide (w ∈ (lg.take m0).flatten))) (1 + 1)))), (7, .ref l1), (6, .int (nI 1)), (5, .int (nI 3)), (4, .ref ll), (2, .int (msk (ws.filter (fun w => !decide (w ∈ (lg.take m0).flatten))))), (0, .ref d), (1, .int (msk ws))]) hx hb dX6_points_47 rfl hl (by decide) rfl (fun ls hl => ?_)
          refine lv_iinc (v := (nI (1 + 1))) (lv' := [(6, .int (nI (1 + 1))), (3, .int (nI (ptF g (ws.filter (fun w => !decide (w ∈ (lg.take m0).flatten))) (1 + 1)))), (7, .ref l1), (5, .int (nI 3)), (4, .ref ll), (2, .int (msk (ws.filter (fun w => !decide (w ∈ (lg.take m0).flatten))))), (0, .ref d), (1, .int (msk ws))]) hx hb dX6_points_48 hl (k := 2) rfl (nI_inc 1 1) (by decide) rfl (fun ls hl => ?_)
          refine lv_goto (tgt := 25) hx hb dX6_points_51 (by decide) ?_
          exact ih25 (1 + 1) (by omega) (by omega) _ _ _ hSep hS (lv_sub hl [0, 3, 4, 1, 5, 6, 7] rfl)
        · refine lv_aload hx hb dX6_points_32 (lv_at hl 2 rfl) ?_
          refine lv_iload hx hb dX6_points_34 (lv_at hl 0 rfl) ?_
          refine n_aald (i := 2) hx hb hK ((ro0 hΦ.1 hS).sub [2] rfl) 7 rfl (by omega) (by omega) dX6_points_36 ?_
          refine n_eqv (y := .ref l2) (by rw [hL2]; rfl) ?_
          refine lv_astore (lv' := [(7, .ref l2), (6, .int (nI 2)), (5, .int (nI 3)), (4, .ref ll), (3, .int (nI (ptF g (ws.filter (fun w => !decide (w ∈ (lg.take m0).flatten))) 2))), (2, .int (msk (ws.filter (fun w => !decide (w ∈ (lg.take m0).flatten))))), (0, .ref d), (1, .int (msk ws))]) hx hb dX6_points_37 hl (by decide) rfl (fun ls hl => ?_)
          refine lv_iload_n hx hb dX6_points_39 rfl (lv_at hl 4 rfl) ?_
          refine lv_aload hx hb dX6_points_40 (lv_at hl 0 rfl) ?_
          refine lv_iload_n hx hb dX6_points_42 rfl (lv_at hl 5 rfl) ?_
          have hFk_10 : ∀ q, Fz (fun _ => False) H.size q → (Fz (fun _ => False) s.heap.size) q := fun q h => by rcases h with h | h; exact h.elim; exact Fz.new (Nat.le_trans hS.1 h)
          have hPk_10 : Sep G.1 clA (Fz (fun _ => False) H.size) [] H := sp_nil
          have hJk_10 := sp_nilJ (F := (fun _ => False)) hSep (fun _ => id) hFk_10
          refine c_i (va_runV (As := [.int (msk (ws.filter (fun w => !decide (w ∈ (lg.take m0).flatten))))]) (rest := [.int (nI (ptF g (ws.filter (fun w => !decide (w ∈ (lg.take m0).flatten))) 2))]) ⟨hx, hb, hml, hown, hts⟩ (m_X9_gives l G H.size l2 (g.1 (11 + 2)) (g.1 (14 + 2)) (!gThere g 2) (g.1 (20 + 2)) (msk (ws.filter (fun w => !decide (w ∈ (lg.take m0).flatten)))) (fun w => decide (w ∈ ws.filter (fun w => !decide (w ∈ (lg.take m0).flatten)))) (rfl)) (cwV 1 hts (lw_V q1024 q1025 q1026 q66 q1027) rfl rfl rfl (by decide +kernel) ⟨Nat.le_of_ble_eq_true rfl, Nat.le_of_ble_eq_true rfl⟩) (sp_preV hE hS hFk_10 hPk_10 ((ro0 hΦ.1 hS).sub [5] rfl) (sp_recv (ci := 7) hK ((ro0 hΦ.1 hS).sub [5] rfl) rfl)) rfl rfl hl.1 rfl (lv_room (Nat.le_of_ble_eq_true rfl)) dX6_points_43 ⟨by first | exact Nat.le_of_ble_eq_true rfl | omega | (dsimp only; omega), by first | exact Nat.le_of_ble_eq_true rfl | omega | (dsimp only; omega)⟩) hS hFk_10 hJk_10 (fun r_11 u_12 H locs hpk_10 hSep hS hzk_10 => ?_)
          obtain rfl : r_11 = (nI (gvN (!gThere g 2) (g.1 (11 + 2)) (fun w => decide (w ∈ ws.filter (fun w => !decide (w ∈ (lg.take m0).flatten)))))) := hpk_10
          refine W.cs (cells' := 0) (slots' := 0) rfl rfl ?_
          have hSep : Sep G.1 clA (Fz (fun _ => False) s.heap.size) [] H := hSep
          refine n_iadd hx hb dX6_points_46 ?_
          refine n_eq (y := (nI (ptF g (ws.filter (fun w => !decide (w ∈ (lg.take m0).flatten))) (2 + 1)))) (rfl) ?_
          refine lv_istore_n (lv' := [(3, .int (nI (ptF g (ws.filter (fun w => !decide (w ∈ (lg.take m0).flatten))) (2 + 1)))), (7, .ref l2), (6, .int (nI 2)), (5, .int (nI 3)), (4, .ref ll), (2, .int (msk (ws.filter (fun w => !decide (w ∈ (lg.take m0).flatten))))), (0, .ref d), (1, .int (msk ws))]) hx hb dX6_points_47 rfl hl (by decide) rfl (fun ls hl => ?_)
          refine lv_iinc (v := (nI (2 + 1))) (lv' := [(6, .int (nI (2 + 1))), (3, .int (nI (ptF g (ws.filter (fun w => !decide (w ∈ (lg.take m0).flatten))) (2 + 1)))), (7, .ref l2), (5, .int (nI 3)), (4, .ref ll), (2, .int (msk (ws.filter (fun w => !decide (w ∈ (lg.take m0).flatten))))), (0, .ref d), (1, .int (msk ws))]) hx hb dX6_points_48 hl (k := 2) rfl (nI_inc 2 1) (by decide) rfl (fun ls hl => ?_)
          refine lv_goto (tgt := 25) hx hb dX6_points_51 (by decide) ?_
          exact ih25 (2 + 1) (by omega) (by omega) _ _ _ hSep hS (lv_sub hl [0, 3, 4, 1, 5, 6, 7] rfl)
  exact L25 (3 - 0 + 1) 0 (Nat.lt_succ_self _) (by omega) _ _ _ hSep hS (lv_sub hl [0, 1, 2, 3, 4, 5, 6] rfl)
