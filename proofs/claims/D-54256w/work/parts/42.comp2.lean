set_option maxRecDepth 100000
set_option maxHeartbeats 600000 in
set_option maxRecDepth 100000 in
theorem m_X3_init (l : Launch) (G : EVT) (F : Nat → Prop) (sz : Nat) (q1 : Nat)  : Met l yX3_init (ws_ yX3_init cX3_init 1 none) ({ frames := 1, cells := 1, slots := 20, locals := 34 } : Room) (SPc G F sz [.ref q1] [pts q1 (.inr (2, [.null, .int (nI 0)]))] (fun _ => True)) (SQv G F sz (fun (u : Nat) => True) (fun (u : Nat) => [pts q1 (.inr (2, [.ref u, .int (nI 0)])), pts u (.inl (G.2.1 1, 20, .inl (fun _ => nI 0)))])) (1) (20) (Fz F sz) := by
  refine sp_of RX3 (by decide) rfl (Nat.le_of_ble_eq_true rfl) ?_
  intro p e s m args below meth c ls QQ hx hb hr hts hown hlocks hml hnm hsz hSep hΦ hE hS hl hQ
  subst hsz
  have hK := hE.1
  have hl : lv_has ls 1 [(0, .ref q1)] := hl
  refine lv_aload_n hx hb dX3_init_0 rfl (lv_at hl 0 rfl) ?_
  refine W.objInit hx hb hown (hts _ q126) (hts _ q81) (hts _ q82) rfl (by rw [hml]; exact hl.1) rfl dX3_init_1 (Nat.le_of_ble_eq_true rfl) (Nat.le_of_ble_eq_true rfl) ?_
  refine W.eq (g2 := F0 m 4 ls []) rfl ?_
  refine lv_aload_n hx hb dX3_init_4 rfl (lv_at hl 0 rfl) ?_
  refine lv_bipush (v := (nI 20)) hx hb dX3_init_5 (by decide) ?_
  refine s_newa (atype := .char) (ty := .char) (n := 20) (a0 := (20, .inl (fun _ => nI 0))) hx hb (hts _ q134) rfl hK hSep hS (fun q h => Fz.new h) 1 rfl (fun C h => by cases h) (fun cA => rfl) (by omega) (by decide) (by first | exact Nat.le_of_ble_eq_true rfl | omega | (dsimp only; omega)) (by first | exact Nat.le_of_ble_eq_true rfl | omega | (dsimp only; omega)) dX3_init_7 (fun q_1 H hSep hS => ?_)
  have hSep : Sep G.1 clA (Fz F s.heap.size) [pts q1 (.inr (2, [.null, .int (nI 0)])), pts q_1 (.inl (G.2.1 1, 20, .inl (fun _ => nI 0)))] H := hSep
  refine W.cs (cells' := 1) (slots' := 20) rfl rfl ?_
  refine s_putF (ci := 2) (v := .ref q_1) (ty := .array .char) (C := RX3) (T := TX3) (N := 2) hx hb hts in_X3 tyX3 tyX3_ok nmX3 hown hK hSep hS 0 rfl rfl 0 (by decide) (hts _ q127) (fun _ h9 => h9) rfl hnm rfl (by decide +kernel) rfl rfl (Nat.le_of_ble_eq_true rfl) dX3_init_9 (fun H locs hSep hS => ?_)
  have hSep : Sep G.1 clA (Fz F s.heap.size) [pts q1 (.inr (2, [.ref q_1, .int (nI 0)])), pts q_1 (.inl (G.2.1 1, 20, .inl (fun _ => nI 0)))] H := hSep
  rw [hQ]
  exact r_v (u := q_1) hx hb hr (trivial) hSep hS (by first | exact Nat.le_of_ble_eq_true rfl | omega | (dsimp only; omega)) (by first | exact Nat.le_of_ble_eq_true rfl | omega | (dsimp only; omega)) dX3_init_12 hlocks

set_option maxHeartbeats 600000 in
set_option maxRecDepth 100000 in
theorem m_X3_add (l : Launch) (G : EVT) (F : Nat → Prop) (sz : Nat) (q1 : Nat) (ch : Nat) (fC : Nat → Int32) (n1 : Nat) (c1 : Nat) (hn : n1 < 20) (hc : c1 < 256) : Met l yX3_add (ws_ yX3_add cX3_add 2 (some .int)) ({ frames := 0, cells := 0, slots := 0, locals := 0 } : Room) (SPc G F sz [.ref q1, .int (nI c1)] [pts q1 (.inr (2, [.ref ch, .int (nI n1)])), pts ch (.inl (G.2.1 1, 20, .inl fC))] (fun _ => True)) (SQi G F sz (fun (r : Int32) (u : Unit) => r = (nI (n1 + 1))) (fun (u : Unit) => [pts q1 (.inr (2, [.ref ch, .int (nI (n1 + 1))])), pts ch (.inl (G.2.1 1, 20, .inl (upd fC n1 (nI c1))))])) (0) (0) (Fz F sz) := by
  refine sp_of RX3 (by decide) rfl (Nat.le_of_ble_eq_true rfl) ?_
  intro p e s m args below meth c ls QQ hx hb hr hts hown hlocks hml hnm hsz hSep hΦ hE hS hl hQ
  subst hsz
  have hK := hE.1
  have hl : lv_has ls 2 [(0, .ref q1), (1, .int (nI c1))] := hl
  refine lv_aload_n hx hb dX3_add_0 rfl (lv_at hl 0 rfl) ?_
  refine va_get (D := G.1) (ci := 2) (v := .ref ch) (C := RX3) (T := TX3) (N := 2) hx hb hts in_X3 hown hK (hSep.cel (k := 0) rfl) 0 rfl rfl 0 (by decide) (hts _ q127) (fun _ h9 => h9) rfl dX3_add_1 ?_
  refine lv_aload_n hx hb dX3_add_4 rfl (lv_at hl 0 rfl) ?_
  refine va_get (D := G.1) (ci := 2) (v := .int (nI n1)) (C := RX3) (T := TX3) (N := 2) hx hb hts in_X3 hown hK (hSep.cel (k := 0) rfl) 0 rfl rfl 1 (by decide) (hts _ q128) (fun _ h9 => h9) rfl dX3_add_5 ?_
  refine lv_iload_n hx hb dX3_add_8 rfl (lv_at hl 1 rfl) ?_
  refine n_cast (i := n1) (x := (nI c1)) (y := (nI c1)) hx hb hK hSep hS 1 rfl 1 rfl (by omega) (by omega) (nI_vnc (by omega)) dX3_add_9 (fun H locs hSep hS => ?_)
  have hSep : Sep G.1 clA (Fz F s.heap.size) [pts q1 (.inr (2, [.ref ch, .int (nI n1)])), pts ch (.inl (G.2.1 1, 20, .inl (upd fC n1 (nI c1))))] H := hSep
  refine lv_aload_n hx hb dX3_add_10 rfl (lv_at hl 0 rfl) ?_
  refine lv_dup hx hb dX3_add_11 rfl ?_
  refine va_get (D := G.1) (ci := 2) (v := .int (nI n1)) (C := RX3) (T := TX3) (N := 2) hx hb hts in_X3 hown hK (hSep.cel (k := 0) rfl) 0 rfl rfl 1 (by decide) (hts _ q128) (fun _ h9 => h9) rfl dX3_add_12 ?_
  refine lv_iconst (v := (nI 1)) hx hb dX3_add_15 (by decide) ?_
  refine n_iadd hx hb dX3_add_16 ?_
  refine s_put (ci := 2) (v := .int (nI (n1 + 1))) (ty := .int) (C := RX3) (T := TX3) (N := 2) hx hb hts in_X3 tyX3 tyX3_ok nmX3 hown hK hSep hS 0 rfl rfl 1 (by decide) (hts _ q128) (fun _ h9 => h9) rfl (by decide +kernel) rfl rfl (Nat.le_of_ble_eq_true rfl) dX3_add_17 (fun H locs hSep hS => ?_)
  have hSep : Sep G.1 clA (Fz F s.heap.size) [pts q1 (.inr (2, [.ref ch, .int (nI (n1 + 1))])), pts ch (.inl (G.2.1 1, 20, .inl (upd fC n1 (nI c1))))] H := hSep
  refine lv_aload_n hx hb dX3_add_20 rfl (lv_at hl 0 rfl) ?_
  refine va_get (D := G.1) (ci := 2) (v := .int (nI (n1 + 1))) (C := RX3) (T := TX3) (N := 2) hx hb hts in_X3 hown hK (hSep.cel (k := 0) rfl) 0 rfl rfl 1 (by decide) (hts _ q128) (fun _ h9 => h9) rfl dX3_add_21 ?_
  rw [hQ]
  exact r_i (r := (nI (n1 + 1))) (u := ()) hx hb hr (rfl) hSep hS (by first | exact Nat.le_of_ble_eq_true rfl | omega | (dsimp only; omega)) (by first | exact Nat.le_of_ble_eq_true rfl | omega | (dsimp only; omega)) dX3_add_24 hlocks

set_option maxHeartbeats 600000 in
set_option maxRecDepth 100000 in
theorem m_X3_clear (l : Launch) (G : EVT) (F : Nat → Prop) (sz : Nat) (q1 : Nat) (ch : Nat) (n1 : Nat)  : Met l yX3_clear (ws_ yX3_clear cX3_clear 2 (some .int)) ({ frames := 0, cells := 0, slots := 0, locals := 0 } : Room) (SPc G F sz [.ref q1] [pts q1 (.inr (2, [.ref ch, .int (nI n1)]))] (fun _ => True)) (SQi G F sz (fun (r : Int32) (u : Unit) => r = (nI n1)) (fun (u : Unit) => [pts q1 (.inr (2, [.ref ch, .int (nI 0)]))])) (0) (0) (Fz F sz) := by
  refine sp_of RX3 (by decide) rfl (Nat.le_of_ble_eq_true rfl) ?_
  intro p e s m args below meth c ls QQ hx hb hr hts hown hlocks hml hnm hsz hSep hΦ hE hS hl hQ
  subst hsz
  have hK := hE.1
  have hl : lv_has ls 2 [(0, .ref q1)] := hl
  refine lv_aload_n hx hb dX3_clear_0 rfl (lv_at hl 0 rfl) ?_
  refine va_get (D := G.1) (ci := 2) (v := .int (nI n1)) (C := RX3) (T := TX3) (N := 2) hx hb hts in_X3 hown hK (hSep.cel (k := 0) rfl) 0 rfl rfl 1 (by decide) (hts _ q128) (fun _ h9 => h9) rfl dX3_clear_1 ?_
  refine lv_istore_n (lv' := [(1, .int (nI n1)), (0, .ref q1)]) hx hb dX3_clear_4 rfl hl (by decide) rfl (fun ls hl => ?_)
  refine lv_aload_n hx hb dX3_clear_5 rfl (lv_at hl 1 rfl) ?_
  refine lv_iconst (v := (nI 0)) hx hb dX3_clear_6 (by decide) ?_
  refine s_put (ci := 2) (v := .int (nI 0)) (ty := .int) (C := RX3) (T := TX3) (N := 2) hx hb hts in_X3 tyX3 tyX3_ok nmX3 hown hK hSep hS 0 rfl rfl 1 (by decide) (hts _ q128) (fun _ h9 => h9) rfl (by decide +kernel) rfl rfl (Nat.le_of_ble_eq_true rfl) dX3_clear_7 (fun H locs hSep hS => ?_)
  have hSep : Sep G.1 clA (Fz F s.heap.size) [pts q1 (.inr (2, [.ref ch, .int (nI 0)]))] H := hSep
  refine lv_iload_n hx hb dX3_clear_10 rfl (lv_at hl 0 rfl) ?_
  rw [hQ]
  exact r_i (r := (nI n1)) (u := ()) hx hb hr (rfl) hSep hS (by first | exact Nat.le_of_ble_eq_true rfl | omega | (dsimp only; omega)) (by first | exact Nat.le_of_ble_eq_true rfl | omega | (dsimp only; omega)) dX3_clear_11 hlocks

set_option maxHeartbeats 600000 in
set_option maxRecDepth 100000 in
theorem m_X3_word (l : Launch) (G : EVT) (sz : Nat) (q1 : Nat) (ch : Nat) (fC : Nat → Int32) (C : List Nat) (i : Nat) (hC : Pre fC C) (hC20 : C.length ≤ 20) (hC6 : ∀ w ∈ C, w < 256) (hi : i < C.length) : Met l yX3_word (ws_ yX3_word cX3_word 2 (some .int)) ({ frames := 0, cells := 0, slots := 0, locals := 0 } : Room) (SPc G (fun _ => False) sz [.ref q1, .int (nI i)] [] (fun H => va_P G.1 clA [(q1, .inr (2, [.ref ch, .int (nI C.length)])), (ch, .inl (G.2.1 1, 20, .inl fC))] H)) (SQi G (fun _ => False) sz (fun (r : Int32) (u : Unit) => r = (nI (C.getD i 0) - nI 97)) (fun (u : Unit) => [])) (0) (0) (Fz (fun _ => False) sz) := by
  refine sp_of RX3 (by decide) rfl (Nat.le_of_ble_eq_true rfl) ?_
  intro p e s m args below meth c ls QQ hx hb hr hts hown hlocks hml hnm hsz hSep hΦ hE hS hl hQ
  subst hsz
  have hK := hE.1
  have hl : lv_has ls 2 [(0, .ref q1), (1, .int (nI i))] := hl
  refine lv_aload_n hx hb dX3_word_0 rfl (lv_at hl 0 rfl) ?_
  refine va_get (D := G.1) (ci := 2) (v := .ref ch) (C := RX3) (T := TX3) (N := 2) hx hb hts in_X3 hown hK (ro0 hΦ hS) 0 rfl rfl 0 (by decide) (hts _ q127) (fun _ h9 => h9) rfl dX3_word_1 ?_
  refine lv_iload_n hx hb dX3_word_4 rfl (lv_at hl 1 rfl) ?_
  refine n_cald (i := i) hx hb hK ((ro0 hΦ hS).sub [1] rfl) 1 rfl (by omega) (by omega) dX3_word_5 ?_
  refine n_eq (y := (nI (C.getD i 0))) (hC i hi) ?_
  refine lv_bipush (v := (nI 97)) hx hb dX3_word_6 (by decide) ?_
  refine lv_isub hx hb dX3_word_8 ?_
  rw [hQ]
  exact r_i (r := (nI (C.getD i 0) - nI 97)) (u := ()) hx hb hr (rfl) hSep hS (by first | exact Nat.le_of_ble_eq_true rfl | omega | (dsimp only; omega)) (by first | exact Nat.le_of_ble_eq_true rfl | omega | (dsimp only; omega)) dX3_word_9 hlocks

set_option maxHeartbeats 600000 in
set_option maxRecDepth 100000 in
theorem m_X3_length (l : Launch) (G : EVT) (sz : Nat) (q1 : Nat) (ch : Nat) (fC : Nat → Int32) (C : List Nat) (hC : Pre fC C) (hC20 : C.length ≤ 20) (hC6 : ∀ w ∈ C, w < 256) : Met l yX3_length (ws_ yX3_length cX3_length 1 (some .int)) ({ frames := 0, cells := 0, slots := 0, locals := 0 } : Room) (SPc G (fun _ => False) sz [.ref q1] [] (fun H => va_P G.1 clA [(q1, .inr (2, [.ref ch, .int (nI C.length)])), (ch, .inl (G.2.1 1, 20, .inl fC))] H)) (SQi G (fun _ => False) sz (fun (r : Int32) (u : Unit) => r = (nI C.length)) (fun (u : Unit) => [])) (0) (0) (Fz (fun _ => False) sz) := by
  refine sp_of RX3 (by decide) rfl (Nat.le_of_ble_eq_true rfl) ?_
  intro p e s m args below meth c ls QQ hx hb hr hts hown hlocks hml hnm hsz hSep hΦ hE hS hl hQ
  subst hsz
  have hK := hE.1
  have hl : lv_has ls 1 [(0, .ref q1)] := hl
  refine lv_aload_n hx hb dX3_length_0 rfl (lv_at hl 0 rfl) ?_
  refine va_get (D := G.1) (ci := 2) (v := .int (nI C.length)) (C := RX3) (T := TX3) (N := 2) hx hb hts in_X3 hown hK (ro0 hΦ hS) 0 rfl rfl 1 (by decide) (hts _ q128) (fun _ h9 => h9) rfl dX3_length_1 ?_
  rw [hQ]
  exact r_i (r := (nI C.length)) (u := ()) hx hb hr (rfl) hSep hS (by first | exact Nat.le_of_ble_eq_true rfl | omega | (dsimp only; omega)) (by first | exact Nat.le_of_ble_eq_true rfl | omega | (dsimp only; omega)) dX3_length_4 hlocks

set_option maxHeartbeats 600000 in
set_option maxRecDepth 100000 in
theorem m_X3_set (l : Launch) (G : EVT) (sz : Nat) (q1 : Nat) (ch : Nat) (fC : Nat → Int32) (C : List Nat) (hC : Pre fC C) (hC20 : C.length ≤ 20) (hC6 : ∀ w ∈ C, w < 256) (hw : ∀ w ∈ C, 97 ≤ w ∧ w < 115) : Met l yX3_set (ws_ yX3_set cX3_set 3 (some .int)) ({ frames := 1, cells := 0, slots := 0, locals := 21 } : Room) (SPc G (fun _ => False) sz [.ref q1] [] (fun H => va_P G.1 clA [(q1, .inr (2, [.ref ch, .int (nI C.length)])), (ch, .inl (G.2.1 1, 20, .inl fC))] H)) (SQi G (fun _ => False) sz (fun (r : Int32) (u : Unit) => r = (msk (tW C))) (fun (u : Unit) => [])) (0) (0) (Fz (fun _ => False) sz) := by
  refine sp_of RX3 (by decide) rfl (Nat.le_of_ble_eq_true rfl) ?_
  intro p e s m args below meth c ls QQ hx hb hr hts hown hlocks hml hnm hsz hSep hΦ hE hS hl hQ
  subst hsz
  have hK := hE.1
  have hl : lv_has ls 3 [(0, .ref q1)] := hl
  refine lv_iconst (v := (nI 0)) hx hb dX3_set_0 (by decide) ?_
  refine n_eq (y := (msk (tW (C.take 0)))) (msk_nil.symm) ?_
  refine lv_istore_n (lv' := [(1, .int (msk (tW (C.take 0)))), (0, .ref q1)]) hx hb dX3_set_1 rfl hl (by decide) rfl (fun ls hl => ?_)
  refine lv_iconst (v := (nI 0)) hx hb dX3_set_2 (by decide) ?_
  refine lv_istore_n (lv' := [(2, .int (nI 0)), (1, .int (msk (tW (C.take 0)))), (0, .ref q1)]) hx hb dX3_set_3 rfl hl (by decide) rfl (fun ls hl => ?_)
  have L4 : ∀ (fu : Nat) (k : Nat) , C.length - k < fu → (k ≤ C.length) → ∀ (H : Heap) (locs : List Loc) (ls : Array Slot), Sep G.1 clA (Fz (fun _ => False) s.heap.size) [] H → va_S (Fz (fun _ => False) s.heap.size) s.heap H locs → lv_has ls 3 [(2, .int (nI k)), (1, .int (msk (tW (C.take k)))), (0, .ref q1)] → W p l e ({ frames := 1, cells := 0, slots := 0, locals := 21 } : Room) s m args below meth c H locs (0) (0) QQ (F0 m 4 ls []) := by
    intro fu
    induction fu with
    | zero => intro k hm; exact absurd hm (Nat.not_lt_zero _)
    | succ fu ih4 =>
      intro k hm4 hp4_0 H locs ls hSep hS hl
      refine lv_iload_n hx hb dX3_set_4 rfl (lv_at hl 0 rfl) ?_
      refine lv_aload_n hx hb dX3_set_5 rfl (lv_at hl 2 rfl) ?_
      refine va_get (D := G.1) (ci := 2) (v := .int (nI C.length)) (C := RX3) (T := TX3) (N := 2) hx hb hts in_X3 hown hK (ro0 hΦ hS) 0 rfl rfl 1 (by decide) (hts _ q128) (fun _ h9 => h9) rfl dX3_set_6 ?_
      refine n_icmp_ge (tgt := 28) hx hb (by omega) (by omega) dX3_set_9 (by decide) (fun c9 => ?_) (fun c9 => ?_)
      · obtain rfl : k = C.length := by omega
        rw [List.take_length] at hl
        refine lv_iload_n hx hb dX3_set_28 rfl (lv_at hl 1 rfl) ?_
        rw [hQ]
        exact r_i (r := (msk (tW C))) (u := ()) hx hb hr (rfl) hSep hS (by first | exact Nat.le_of_ble_eq_true rfl | omega | (dsimp only; omega)) (by first | exact Nat.le_of_ble_eq_true rfl | omega | (dsimp only; omega)) dX3_set_29 hlocks
      · refine lv_iload_n hx hb dX3_set_12 rfl (lv_at hl 1 rfl) ?_
        refine lv_iconst (v := (nI 1)) hx hb dX3_set_13 (by decide) ?_
        refine lv_aload_n hx hb dX3_set_14 rfl (lv_at hl 2 rfl) ?_
        refine lv_iload_n hx hb dX3_set_15 rfl (lv_at hl 0 rfl) ?_
        have hFk_1 : ∀ q, Fz (fun _ => False) H.size q → (Fz (fun _ => False) s.heap.size) q := fun q h => by rcases h with h | h; exact h.elim; exact Fz.new (Nat.le_trans hS.1 h)
        have hPk_1 : Sep G.1 clA (Fz (fun _ => False) H.size) [] H := sp_nil
        have hJk_1 := sp_nilJ (F := (fun _ => False)) hSep (fun _ => id) hFk_1
        refine c_i (va_runV (As := [.int (nI k)]) (rest := [.int (nI 1), .int (msk (tW (C.take k)))]) ⟨hx, hb, hml, hown, hts⟩ (m_X3_word l G H.size q1 ch fC C k (by first | assumption | omega) (by first | assumption | omega) (by first | assumption | omega) (by omega)) (cwV 1 hts (lw_V q964 q965 q966 q43 q967) rfl rfl rfl (by decide +kernel) ⟨Nat.le_of_ble_eq_true rfl, Nat.le_of_ble_eq_true rfl⟩) (sp_preV hE hS hFk_1 hPk_1 (va_P.app ((ro0 hΦ hS).sub [0] rfl) ((ro0 hΦ hS).sub [1] rfl)) (sp_recv (ci := 2) hK ((ro0 hΦ hS).sub [0] rfl) rfl)) rfl rfl hl.1 rfl (lv_room (Nat.le_of_ble_eq_true rfl)) dX3_set_16 ⟨by first | exact Nat.le_of_ble_eq_true rfl | omega | (dsimp only; omega), by first | exact Nat.le_of_ble_eq_true rfl | omega | (dsimp only; omega)⟩) hS hFk_1 hJk_1 (fun r_2 u_3 H locs hpk_1 hSep hS hzk_1 => ?_)
        obtain rfl : r_2 = (nI (C.getD k 0) - nI 97) := hpk_1
        refine W.cs (cells' := 0) (slots' := 0) rfl rfl ?_
        have hSep : Sep G.1 clA (Fz (fun _ => False) s.heap.size) [] H := hSep
        refine lv_ishl hx hb dX3_set_19 ?_
        refine lv_ior hx hb dX3_set_20 ?_
        refine n_eq (y := (msk (tW (C.take (k + 1))))) (msk_take hw (by omega)) ?_
        refine lv_istore_n (lv' := [(1, .int (msk (tW (C.take (k + 1))))), (2, .int (nI k)), (0, .ref q1)]) hx hb dX3_set_21 rfl hl (by decide) rfl (fun ls hl => ?_)
        refine lv_iinc (v := (nI (k + 1))) (lv' := [(2, .int (nI (k + 1))), (1, .int (msk (tW (C.take (k + 1))))), (0, .ref q1)]) hx hb dX3_set_22 hl (k := 1) rfl (nI_inc k 1) (by decide) rfl (fun ls hl => ?_)
        refine lv_goto (tgt := 4) hx hb dX3_set_25 (by decide) ?_
        exact ih4 (k + 1) (by omega) (by omega) _ _ _ hSep hS (lv_sub hl [0, 1, 2] rfl)
  exact L4 (C.length - 0 + 1) 0 (Nat.lt_succ_self _) (by omega) _ _ _ hSep hS (lv_sub hl [0, 1, 2] rfl)

set_option maxHeartbeats 600000 in
set_option maxRecDepth 100000 in
theorem m_X3_error (l : Launch) (G : EVT) (sz : Nat) (q1 : Nat) (ch : Nat) (fC : Nat → Int32) (C : List Nat) (hC : Pre fC C) (hC20 : C.length ≤ 20) (hC6 : ∀ w ∈ C, w < 256) : Met l yX3_error (ws_ yX3_error cX3_error 5 (some .int)) ({ frames := 2, cells := 0, slots := 0, locals := 45 } : Room) (SPc G (fun _ => False) sz [.ref q1] [] (fun H => va_P G.1 clA [(q1, .inr (2, [.ref ch, .int (nI C.length)])), (ch, .inl (G.2.1 1, 20, .inl fC))] H)) (SQi G (fun _ => False) sz (fun (r : Int32) (u : Unit) => r = (errI C)) (fun (u : Unit) => [])) (0) (0) (Fz (fun _ => False) sz) := by
  refine sp_of RX3 (by decide) rfl (Nat.le_of_ble_eq_true rfl) ?_
  intro p e s m args below meth c ls QQ hx hb hr hts hown hlocks hml hnm hsz hSep hΦ hE hS hl hQ
  subst hsz
  have hK := hE.1
  have hl : lv_has ls 5 [(0, .ref q1)] := hl
  refine lv_iconst (v := (nI 0)) hx hb dX3_error_0 (by decide) ?_
  refine lv_istore_n (lv' := [(1, .int (nI 0)), (0, .ref q1)]) hx hb dX3_error_1 rfl hl (by decide) rfl (fun ls hl => ?_)
  refine lv_iconst (v := (nI 0)) hx hb dX3_error_2 (by decide) ?_
  refine n_eq (y := (msk (tW (C.take 0)))) (msk_nil.symm) ?_
  refine lv_istore_n (lv' := [(2, .int (msk (tW (C.take 0)))), (1, .int (nI 0)), (0, .ref q1)]) hx hb dX3_error_3 rfl hl (by decide) rfl (fun ls hl => ?_)
  refine lv_iconst (v := (nI 0)) hx hb dX3_error_4 (by decide) ?_
  refine lv_istore_n (lv' := [(3, .int (nI 0)), (2, .int (msk (tW (C.take 0)))), (1, .int (nI 0)), (0, .ref q1)]) hx hb dX3_error_5 rfl hl (by decide) rfl (fun ls hl => ?_)
  have L6 : ∀ (fu : Nat) (k : Nat) (q : Nat) , C.length - k < fu → (k ≤ C.length) → (gRun 0 (tW (C.take k)) = q) → (q ≠ 6) → (rd 0 [] C = (rd q (tW (C.take k)) (C.drop k)).map (· + k)) → (∀ w ∈ tW (C.take k), w < 18) → ∀ (H : Heap) (locs : List Loc) (ls : Array Slot), Sep G.1 clA (Fz (fun _ => False) s.heap.size) [] H → va_S (Fz (fun _ => False) s.heap.size) s.heap H locs → lv_has ls 5 [(3, .int (nI k)), (2, .int (msk (tW (C.take k)))), (1, .int (nI q)), (0, .ref q1)] → W p l e ({ frames := 2, cells := 0, slots := 0, locals := 45 } : Room) s m args below meth c H locs (0) (0) QQ (F0 m 6 ls []) := by
    intro fu
    induction fu with
    | zero => intro k q hm; exact absurd hm (Nat.not_lt_zero _)
    | succ fu ih6 =>
      intro k q hm6 hp6_0 hp6_1 hp6_2 hp6_3 hp6_4 H locs ls hSep hS hl
      have hq5 : q ≤ 5 := by have := gRun_le (tW (C.take k)) 0 (by omega); omega
      refine lv_iload_n hx hb dX3_error_6 rfl (lv_at hl 0 rfl) ?_
      refine lv_aload_n hx hb dX3_error_7 rfl (lv_at hl 3 rfl) ?_
      refine va_get (D := G.1) (ci := 2) (v := .int (nI C.length)) (C := RX3) (T := TX3) (N := 2) hx hb hts in_X3 hown hK (ro0 hΦ hS) 0 rfl rfl 1 (by decide) (hts _ q128) (fun _ h9 => h9) rfl dX3_error_8 ?_
      refine n_icmp_ge (tgt := 73) hx hb (by omega) (by omega) dX3_error_11 (by decide) (fun c11 => ?_) (fun c11 => ?_)
      · obtain rfl : k = C.length := by omega
        have hst := rd_end hp6_3
        refine lv_iload_n hx hb dX3_error_73 rfl (lv_at hl 2 rfl) ?_
        have hFk_1 : ∀ q, Fz (fun _ => False) H.size q → (Fz (fun _ => False) s.heap.size) q := fun q h => by rcases h with h | h; exact h.elim; exact Fz.new (Nat.le_trans hS.1 h)
        have hPk_1 : Sep G.1 clA (Fz (fun _ => False) H.size) [] H := sp_nil
        have hJk_1 := sp_nilJ (F := (fun _ => False)) hSep (fun _ => id) hFk_1
        refine c_i (va_runS (As := [.int (nI q)]) (rest := []) ⟨hx, hb, hml, hown, hts⟩ (m_X5_isEnd l G H.size q (by omega)) (va_cwS 1 hts (lw_S q177 q178 q50 q179) rfl rfl rfl (by decide +kernel) ⟨Nat.le_of_ble_eq_true rfl, Nat.le_of_ble_eq_true rfl⟩) (sp_preS hE hS hFk_1 hPk_1 trivial) rfl rfl hl.1 rfl (lv_room (Nat.le_of_ble_eq_true rfl)) dX3_error_74 ⟨by first | exact Nat.le_of_ble_eq_true rfl | omega | (dsimp only; omega), by first | exact Nat.le_of_ble_eq_true rfl | omega | (dsimp only; omega)⟩) hS hFk_1 hJk_1 (fun r_2 u_3 H locs hpk_1 hSep hS hzk_1 => ?_)
        obtain rfl : r_2 = (bI (decide (q = 3 ∨ q = 5))) := hpk_1
        refine W.cs (cells' := 0) (slots' := 0) rfl rfl ?_
        have hSep : Sep G.1 clA (Fz (fun _ => False) s.heap.size) [] H := hSep
        refine b_if_eq (tgt := 84) hx hb dX3_error_77 (by decide) (fun c77 => ?_) (fun c77 => ?_)
        · refine lv_aload_n hx hb dX3_error_84 rfl (lv_at hl 3 rfl) ?_
          refine va_get (D := G.1) (ci := 2) (v := .int (nI C.length)) (C := RX3) (T := TX3) (N := 2) hx hb hts in_X3 hown hK (ro0 hΦ hS) 0 rfl rfl 1 (by decide) (hts _ q128) (fun _ h9 => h9) rfl dX3_error_85 ?_
          rw [hQ]
          exact r_i (r := (nI C.length)) (u := ()) hx hb hr (by unfold errI; rw [hst]; first | rw [if_pos (of_decide_eq_true c77)] | rw [if_neg (of_decide_eq_false c77)]) hSep hS (by first | exact Nat.le_of_ble_eq_true rfl | omega | (dsimp only; omega)) (by first | exact Nat.le_of_ble_eq_true rfl | omega | (dsimp only; omega)) dX3_error_88 hlocks
        · refine lv_iconst (v := (-1)) hx hb dX3_error_80 (by decide) ?_
          refine lv_goto (tgt := 88) hx hb dX3_error_81 (by decide) ?_
          rw [hQ]
          exact r_i (r := (-1)) (u := ()) hx hb hr (by unfold errI; rw [hst]; first | rw [if_pos (of_decide_eq_true c77)] | rw [if_neg (of_decide_eq_false c77)]) hSep hS (by first | exact Nat.le_of_ble_eq_true rfl | omega | (dsimp only; omega)) (by first | exact Nat.le_of_ble_eq_true rfl | omega | (dsimp only; omega)) dX3_error_88 hlocks
      · have hc6 : (C.getD k 0) < 256 := hC6 _ (getD_mem (by omega))
        have htx := txW_in hc6
        refine lv_aload_n hx hb dX3_error_14 rfl (lv_at hl 3 rfl) ?_
        refine va_get (D := G.1) (ci := 2) (v := .ref ch) (C := RX3) (T := TX3) (N := 2) hx hb hts in_X3 hown hK (ro0 hΦ hS) 0 rfl rfl 0 (by decide) (hts _ q127) (fun _ h9 => h9) rfl dX3_error_15 ?_
        refine lv_iload_n hx hb dX3_error_18 rfl (lv_at hl 0 rfl) ?_
        refine n_cald (i := k) hx hb hK ((ro0 hΦ hS).sub [1] rfl) 1 rfl (by omega) (by omega) dX3_error_19 ?_
        refine n_eq (y := (nI (C.getD k 0))) (hC k (by omega)) ?_
        refine lv_bipush (v := (nI 97)) hx hb dX3_error_20 (by decide) ?_
        refine lv_isub hx hb dX3_error_22 ?_
        refine lv_istore (lv' := [(4, .int (nI (C.getD k 0) - nI 97)), (3, .int (nI k)), (2, .int (msk (tW (C.take k)))), (1, .int (nI q)), (0, .ref q1)]) hx hb dX3_error_23 hl (by decide) rfl (fun ls hl => ?_)
        have L52 : ∀ (v9 : Int32) , ((v9 = -1 ∧ ∀ w, txW (C.getD k 0) = some w → ¬ (gNext q w ≠ 6 ∧ w ∉ tW (C.take k))) ∨ ∃ w, txW (C.getD k 0) = some w ∧ gNext q w ≠ 6 ∧ w ∉ tW (C.take k) ∧ v9 = nI (gNext q w)) → ∀ (H : Heap) (locs : List Loc) (ls : Array Slot), Sep G.1 clA (Fz (fun _ => False) s.heap.size) [] H → va_S (Fz (fun _ => False) s.heap.size) s.heap H locs → lv_has ls 5 [(4, .int (nI (C.getD k 0) - nI 97)), (3, .int (nI k)), (2, .int (msk (tW (C.take k)))), (1, .int (nI q)), (0, .ref q1)] → W p l e ({ frames := 2, cells := 0, slots := 0, locals := 45 } : Room) s m args below meth c H locs (0) (0) QQ (F0 m 52 ls [.int v9]) := by
          intro v9 hp52_0 H locs ls hSep hS hl
          refine lv_istore_n (lv' := [(1, .int v9), (4, .int (nI (C.getD k 0) - nI 97)), (3, .int (nI k)), (2, .int (msk (tW (C.take k)))), (0, .ref q1)]) hx hb dX3_error_52 rfl hl (by decide) rfl (fun ls hl => ?_)
          refine lv_iload_n hx hb dX3_error_53 rfl (lv_at hl 0 rfl) ?_
          refine lv_iconst (v := (-1)) hx hb dX3_error_54 (by decide) ?_
          refine lv_icmp_ne (tgt := 60) hx hb dX3_error_55 (by decide) (fun c55 => ?_) (fun c55 => ?_)
          · obtain ⟨w9, hw9, hn9a, hn9b, rfl⟩ := hp52_0.resolve_left (fun h => c55 h.1)
            have hn9 : gNext q w9 ≠ 6 ∧ w9 ∉ tW (C.take k) := ⟨hn9a, hn9b⟩
            have hwx := htx.2 w9 hw9
            have h18 := txW_w hw9
            have htk : tW (C.take (k + 1)) = tW (C.take k) ++ [w9] := by rw [tW_take (by omega), h18.1]
            have hgl := gNext_gt q w9 (by omega)
            refine lv_iload_n hx hb dX3_error_60 rfl (lv_at hl 3 rfl) ?_
            refine lv_iconst (v := (nI 1)) hx hb dX3_error_61 (by decide) ?_
            refine lv_iload hx hb dX3_error_62 (lv_at hl 1 rfl) ?_
            refine lv_ishl hx hb dX3_error_64 ?_
            refine lv_ior hx hb dX3_error_65 ?_
            refine n_eq (y := (msk (tW (C.take (k + 1))))) (by rw [hwx, msk_app h18.2, htk]) ?_
            refine lv_istore_n (lv' := [(2, .int (msk (tW (C.take (k + 1))))), (1, .int (nI (gNext q w9))), (4, .int (nI (C.getD k 0) - nI 97)), (3, .int (nI k)), (0, .ref q1)]) hx hb dX3_error_66 rfl hl (by decide) rfl (fun ls hl => ?_)
            refine lv_iinc (v := (nI (k + 1))) (lv' := [(3, .int (nI (k + 1))), (2, .int (msk (tW (C.take (k + 1))))), (1, .int (nI (gNext q w9))), (4, .int (nI (C.getD k 0) - nI 97)), (0, .ref q1)]) hx hb dX3_error_67 hl (k := 3) rfl (nI_inc k 1) (by decide) rfl (fun ls hl => ?_)
            refine lv_goto (tgt := 6) hx hb dX3_error_70 (by decide) ?_
            exact ih6 (k + 1) (gNext q w9) (by omega) (by omega) (by rw [htk, gRun_app, hp6_1]; rfl) (hn9.1) (by rw [htk]; exact rd_step hp6_3 (by omega) hw9 hn9.1 hn9.2) (fun w hw => by rw [htk] at hw; rcases List.mem_append.mp hw with z | z; exact hp6_4 w z; rw [List.mem_singleton.mp z]; exact h18.2) _ _ _ hSep hS (lv_sub hl [0, 1, 2, 4] rfl)
          · have hst : rd 0 [] C = some k := rd_stop hp6_3 (by omega) (by rcases hp52_0 with h | ⟨w9, hw9, h1, h2, h3⟩; exact h.2; exact absurd (show nI (gNext q w9) < 0 by rw [← h3, c55]; decide) (nI_gZ (by have := (gNext_gt q w9 (by omega)).2; omega)))
            refine lv_iload_n hx hb dX3_error_58 rfl (lv_at hl 2 rfl) ?_
            rw [hQ]
            exact r_i (r := (nI k)) (u := ()) hx hb hr (by unfold errI; rw [hst]) hSep hS (by first | exact Nat.le_of_ble_eq_true rfl | omega | (dsimp only; omega)) (by first | exact Nat.le_of_ble_eq_true rfl | omega | (dsimp only; omega)) dX3_error_59 hlocks
        refine lv_iload hx hb dX3_error_25 (lv_at hl 0 rfl) ?_
        have hFk_4 : ∀ q, Fz (fun _ => False) H.size q → (Fz (fun _ => False) s.heap.size) q := fun q h => by rcases h with h | h; exact h.elim; exact Fz.new (Nat.le_trans hS.1 h)
        have hPk_4 : Sep G.1 clA (Fz (fun _ => False) H.size) [] H := sp_nil
        have hJk_4 := sp_nilJ (F := (fun _ => False)) hSep (fun _ => id) hFk_4
        refine c_i (va_runSN (As := [.int (nI (C.getD k 0) - nI 97)]) (rest := []) ⟨hx, hb, hml, hown, hts⟩ (m_X1_isWord l G H.size (nI (C.getD k 0) - nI 97) ) ⟨va_cnB 1 hts (lw_meth q166) rfl rfl rfl (hE.2.1 _ q164 rfl) (hts _ q39) (by decide +kernel) ⟨Nat.le_of_ble_eq_true rfl, Nat.le_of_ble_eq_true rfl⟩, hts _ q165, trivial⟩ (sp_preS hE hS hFk_4 hPk_4 trivial) rfl rfl hl.1 rfl (lv_room (Nat.le_of_ble_eq_true rfl)) dX3_error_27 ⟨by first | exact Nat.le_of_ble_eq_true rfl | omega | (dsimp only; omega), by first | exact Nat.le_of_ble_eq_true rfl | omega | (dsimp only; omega)⟩) hS hFk_4 hJk_4 (fun r_5 u_6 H locs hpk_4 hSep hS hzk_4 => ?_)
        obtain rfl : r_5 = (bI (inR (nI (C.getD k 0) - nI 97).toInt 0 17)) := hpk_4
        refine W.cs (cells' := 0) (slots' := 0) rfl rfl ?_
        have hSep : Sep G.1 clA (Fz (fun _ => False) s.heap.size) [] H := hSep
        refine n_eq (y := (bI ((txW (C.getD k 0)).isSome))) (by rw [htx.1]) ?_
        refine b_if_eq (tgt := 51) hx hb dX3_error_30 (by decide) (fun c30 => ?_) (fun c30 => ?_)
        · refine lv_iconst (v := (-1)) hx hb dX3_error_51 (by decide) ?_
          exact L52 (-1) (by first | exact Or.inl ⟨rfl, fun w hw => (by rw [show txW (C.getD k 0) = some w from hw] at c30; exact Bool.noConfusion c30)⟩ | exact Or.inl ⟨rfl, fun w hw h => h.2 (by rw [hw9] at hw; cases hw; exact of_decide_eq_true c39)⟩) _ _ _ hSep hS (lv_sub hl [0, 1, 2, 3, 4] rfl)
        · obtain ⟨w9, hw9⟩ := Option.isSome_iff_exists.mp c30
          have hwx := htx.2 w9 hw9
          have h18 := txW_w hw9
          have hgl := gNext_gt q w9 (by omega)
          refine lv_iload_n hx hb dX3_error_33 rfl (lv_at hl 2 rfl) ?_
          refine lv_iload hx hb dX3_error_34 (lv_at hl 0 rfl) ?_
          refine n_eq (y := (nI w9)) (hwx) ?_
          have hFk_7 : ∀ q, Fz (fun _ => False) H.size q → (Fz (fun _ => False) s.heap.size) q := fun q h => by rcases h with h | h; exact h.elim; exact Fz.new (Nat.le_trans hS.1 h)
          have hPk_7 : Sep G.1 clA (Fz (fun _ => False) H.size) [] H := sp_nil
          have hJk_7 := sp_nilJ (F := (fun _ => False)) hSep (fun _ => id) hFk_7
          refine c_i (va_runSN (As := [.int (msk (tW (C.take k))), .int (nI w9)]) (rest := []) ⟨hx, hb, hml, hown, hts⟩ (m_X1_has l G H.size (msk (tW (C.take k))) w9 (by omega)) ⟨va_cnB 2 hts (lw_meth q173) rfl rfl rfl (hE.2.1 _ q171 rfl) (hts _ q39) (by decide +kernel) ⟨Nat.le_of_ble_eq_true rfl, Nat.le_of_ble_eq_true rfl⟩, hts _ q172, trivial⟩ (sp_preS hE hS hFk_7 hPk_7 trivial) rfl rfl hl.1 rfl (lv_room (Nat.le_of_ble_eq_true rfl)) dX3_error_36 ⟨by first | exact Nat.le_of_ble_eq_true rfl | omega | (dsimp only; omega), by first | exact Nat.le_of_ble_eq_true rfl | omega | (dsimp only; omega)⟩) hS hFk_7 hJk_7 (fun r_8 u_9 H locs hpk_7 hSep hS hzk_7 => ?_)
          obtain rfl : r_8 = (bI (bitI (msk (tW (C.take k))) w9)) := hpk_7
          refine W.cs (cells' := 0) (slots' := 0) rfl rfl ?_
          have hSep : Sep G.1 clA (Fz (fun _ => False) s.heap.size) [] H := hSep
          refine n_eq (y := (bI (decide (w9 ∈ tW (C.take k))))) (by rw [bitI_msk (by omega), decide_eq_true h18.2, Bool.true_and]) ?_
          refine b_if_ne (tgt := 51) hx hb dX3_error_39 (by decide) (fun c39 => ?_) (fun c39 => ?_)
          · refine lv_iconst (v := (-1)) hx hb dX3_error_51 (by decide) ?_
            exact L52 (-1) (by first | exact Or.inl ⟨rfl, fun w hw => (by rw [show txW (C.getD k 0) = some w from hw] at c30; exact Bool.noConfusion c30)⟩ | exact Or.inl ⟨rfl, fun w hw h => h.2 (by rw [hw9] at hw; cases hw; exact of_decide_eq_true c39)⟩) _ _ _ hSep hS (lv_sub hl [0, 1, 2, 3, 4] rfl)
          · refine lv_iload_n hx hb dX3_error_42 rfl (lv_at hl 3 rfl) ?_
            refine lv_iload hx hb dX3_error_43 (lv_at hl 0 rfl) ?_
            refine n_eq (y := (nI w9)) (hwx) ?_
            have hFk_10 : ∀ q, Fz (fun _ => False) H.size q → (Fz (fun _ => False) s.heap.size) q := fun q h => by rcases h with h | h; exact h.elim; exact Fz.new (Nat.le_trans hS.1 h)
            have hPk_10 : Sep G.1 clA (Fz (fun _ => False) H.size) [] H := sp_nil
            have hJk_10 := sp_nilJ (F := (fun _ => False)) hSep (fun _ => id) hFk_10
            refine c_i (va_runS (As := [.int (nI q), .int (nI w9)]) (rest := []) ⟨hx, hb, hml, hown, hts⟩ (m_X5_next l G H.size q w9 (hq5) (h18.2)) (va_cwS 2 hts (lw_S q174 q175 q50 q176) rfl rfl rfl (by decide +kernel) ⟨Nat.le_of_ble_eq_true rfl, Nat.le_of_ble_eq_true rfl⟩) (sp_preS hE hS hFk_10 hPk_10 trivial) rfl rfl hl.1 rfl (lv_room (Nat.le_of_ble_eq_true rfl)) dX3_error_45 ⟨by first | exact Nat.le_of_ble_eq_true rfl | omega | (dsimp only; omega), by first | exact Nat.le_of_ble_eq_true rfl | omega | (dsimp only; omega)⟩) hS hFk_10 hJk_10 (fun r_11 u_12 H locs hpk_10 hSep hS hzk_10 => ?_)
            obtain rfl : r_11 = (gNI q w9) := hpk_10
            refine W.cs (cells' := 0) (slots' := 0) rfl rfl ?_
            have hSep : Sep G.1 clA (Fz (fun _ => False) s.heap.size) [] H := hSep
            refine lv_goto (tgt := 52) hx hb dX3_error_48 (by decide) ?_
            exact L52 (gNI q w9) (by by_cases h6 : gNext q w9 = 6; exact Or.inl ⟨(gNI_m (by omega)).mpr h6, fun w hw h => h.1 (by rw [hw9] at hw; cases hw; exact h6)⟩; exact Or.inr ⟨w9, hw9, h6, of_decide_eq_false c39, by unfold gNI; rw [if_neg h6]⟩) _ _ _ hSep hS (lv_sub hl [0, 1, 2, 3, 4] rfl)
  exact L6 (C.length - 0 + 1) 0 0 (Nat.lt_succ_self _) (Nat.zero_le _) (rfl) (by decide) (by simp [tW]) (by simp [tW]) _ _ _ hSep hS (lv_sub hl [0, 1, 2, 3] rfl)

set_option maxHeartbeats 600000 in
set_option maxRecDepth 100000 in
theorem m_X3_copy (l : Launch) (G : EVT) (sz : Nat) (q1 : Nat) (ch : Nat) (fC : Nat → Int32) (C : List Nat) (hC : Pre fC C) (hC20 : C.length ≤ 20) (hC6 : ∀ w ∈ C, w < 256) : Met l yX3_copy (ws_ yX3_copy cX3_copy 4 (some (.object "TaleDuel$Sentence"))) ({ frames := 2, cells := 2, slots := 22, locals := 54 } : Room) (SPc G (fun _ => False) sz [.ref q1] [] (fun H => va_P G.1 clA [(q1, .inr (2, [.ref ch, .int (nI C.length)])), (ch, .inl (G.2.1 1, 20, .inl fC))] H)) (SQr G (fun _ => False) sz (fun (u : Nat × (Nat → Int32)) => Pre u.2 C) (fun (u : Nat × (Nat → Int32)) (ra : Nat) => [pts ra (.inr (2, [.ref u.1, .int (nI C.length)])), pts u.1 (.inl (G.2.1 1, 20, .inl u.2))])) (2) (22) (Fz (fun _ => False) sz) := by
  refine sp_of RX3 (by decide) rfl (Nat.le_of_ble_eq_true rfl) ?_
  intro p e s m args below meth c ls QQ hx hb hr hts hown hlocks hml hnm hsz hSep hΦ hE hS hl hQ
  subst hsz
  have hK := hE.1
  have hl : lv_has ls 4 [(0, .ref q1)] := hl
  refine s_new (ci := 2) (fs := [.null, .int (nI 0)]) (C := RX3) (T := TX3) (N := 2) hx hb hts in_X3 tyX3 tyX3_ok hown (hts _ q1229) (hts _ q122) (hts _ q43) hK hSep hS (fun q h => Fz.new h) rfl (fun j hj => by rcases (show j = 0 ∨ j = 1 by omega) with rfl | rfl <;> rfl) (by first | exact Nat.le_of_ble_eq_true rfl | omega | (dsimp only; omega)) (by first | exact Nat.le_of_ble_eq_true rfl | omega | (dsimp only; omega)) dX3_copy_0 (fun q_1 H hSep hS => ?_)
  have hSep : Sep G.1 clA (Fz (fun _ => False) s.heap.size) [pts q_1 (.inr (2, [.null, .int (nI 0)]))] H := hSep
  refine W.cs (cells' := 1) (slots' := 2) rfl rfl ?_
  refine lv_dup hx hb dX3_copy_3 rfl ?_
  obtain ⟨Fk_2, hFk_2, hPk_2, hJk_2⟩ := hSep.cut (Pc := [pts q_1 (.inr (2, [.null, .int (nI 0)]))]) (Pr := []) (fun q h => Fz.new (Nat.le_trans hS.1 h)) [0] [] rfl rfl rfl rfl (by decide)
  refine c_v (va_runI (As := []) (rest := [.ref q_1]) ⟨hx, hb, hml, hown, hts⟩ (m_X3_init l G Fk_2 H.size q_1 ) (cwI 0 hts (lw_meth q125) rfl rfl rfl (hts _ q43) (hts _ q1230) (hts _ q124) rfl (by decide +kernel) ⟨Nat.le_of_ble_eq_true rfl, Nat.le_of_ble_eq_true rfl⟩) (sp_preS hE hS hFk_2 hPk_2 trivial) rfl rfl hl.1 rfl (lv_room (Nat.le_of_ble_eq_true rfl)) dX3_copy_4 ⟨by first | exact Nat.le_of_ble_eq_true rfl | omega | (dsimp only; omega), by first | exact Nat.le_of_ble_eq_true rfl | omega | (dsimp only; omega)⟩) hS hFk_2 hJk_2 (fun u_4 H locs hpk_2 hSep hS hzk_2 => ?_)
  obtain ⟨ch2, rfl⟩ : ∃ z, z = u_4 := ⟨_, rfl⟩
  refine W.cs (cells' := 2) (slots' := 22) rfl rfl ?_
  have hSep : Sep G.1 clA (Fz (fun _ => False) s.heap.size) [pts q_1 (.inr (2, [.ref ch2, .int (nI 0)])), pts ch2 (.inl (G.2.1 1, 20, .inl (fun _ => nI 0)))] H := hSep
  refine lv_astore_n (lv' := [(1, .ref q_1), (0, .ref q1)]) hx hb dX3_copy_7 rfl hl (by decide) rfl (fun ls hl => ?_)
  refine lv_iconst (v := (nI 0)) hx hb dX3_copy_8 (by decide) ?_
  refine lv_istore_n (lv' := [(2, .int (nI 0)), (1, .ref q_1), (0, .ref q1)]) hx hb dX3_copy_9 rfl hl (by decide) rfl (fun ls hl => ?_)
  have L10 : ∀ (fu : Nat) (k : Nat) (f2 : Nat → Int32) , C.length - k < fu → (k ≤ C.length) → (∀ j, j < k → f2 j = nI (C.getD j 0)) → ∀ (H : Heap) (locs : List Loc) (ls : Array Slot), Sep G.1 clA (Fz (fun _ => False) s.heap.size) [pts q_1 (.inr (2, [.ref ch2, .int (nI k)])), pts ch2 (.inl (G.2.1 1, 20, .inl f2))] H → va_S (Fz (fun _ => False) s.heap.size) s.heap H locs → lv_has ls 4 [(2, .int (nI k)), (1, .ref q_1), (0, .ref q1)] → W p l e ({ frames := 2, cells := 2, slots := 22, locals := 54 } : Room) s m args below meth c H locs (2) (22) QQ (F0 m 10 ls []) := by
    intro fu
    induction fu with
    | zero => intro k f2 hm; exact absurd hm (Nat.not_lt_zero _)
    | succ fu ih10 =>
      intro k f2 hm10 hp10_0 hp10_1 H locs ls hSep hS hl
      refine lv_iload_n hx hb dX3_copy_10 rfl (lv_at hl 0 rfl) ?_
      refine lv_aload_n hx hb dX3_copy_11 rfl (lv_at hl 2 rfl) ?_
      refine va_get (D := G.1) (ci := 2) (v := .int (nI C.length)) (C := RX3) (T := TX3) (N := 2) hx hb hts in_X3 hown hK (ro0 hΦ hS) 0 rfl rfl 1 (by decide) (hts _ q128) (fun _ h9 => h9) rfl dX3_copy_12 ?_
      refine n_icmp_ge (tgt := 35) hx hb (by omega) (by omega) dX3_copy_15 (by decide) (fun c15 => ?_) (fun c15 => ?_)
      · obtain rfl : k = C.length := by omega
        refine lv_aload_n hx hb dX3_copy_35 rfl (lv_at hl 1 rfl) ?_
        rw [hQ]
        exact r_r (r := q_1) (u := (ch2, f2)) hx hb hr (Or.inl ⟨_, rfl⟩) (hp10_1) hSep hS (by first | exact Nat.le_of_ble_eq_true rfl | omega | (dsimp only; omega)) (by first | exact Nat.le_of_ble_eq_true rfl | omega | (dsimp only; omega)) dX3_copy_36 hlocks
      · refine lv_aload_n hx hb dX3_copy_18 rfl (lv_at hl 1 rfl) ?_
        refine lv_aload_n hx hb dX3_copy_19 rfl (lv_at hl 2 rfl) ?_
        refine va_get (D := G.1) (ci := 2) (v := .ref ch) (C := RX3) (T := TX3) (N := 2) hx hb hts in_X3 hown hK (ro0 hΦ hS) 0 rfl rfl 0 (by decide) (hts _ q127) (fun _ h9 => h9) rfl dX3_copy_20 ?_
        refine lv_iload_n hx hb dX3_copy_23 rfl (lv_at hl 0 rfl) ?_
        refine n_cald (i := k) hx hb hK ((ro0 hΦ hS).sub [1] rfl) 1 rfl (by omega) (by omega) dX3_copy_24 ?_
        refine n_eq (y := (nI (C.getD k 0))) (hC k (by omega)) ?_
        obtain ⟨Fk_5, hFk_5, hPk_5, hJk_5⟩ := hSep.cut (Pc := [pts q_1 (.inr (2, [.ref ch2, .int (nI k)])), pts ch2 (.inl (G.2.1 1, 20, .inl f2))]) (Pr := []) (fun q h => Fz.new (Nat.le_trans hS.1 h)) [0, 1] [] rfl rfl rfl rfl (by decide)
        refine c_i (va_runV (As := [.int (nI (C.getD k 0))]) (rest := []) ⟨hx, hb, hml, hown, hts⟩ (m_X3_add l G Fk_5 H.size q_1 ch2 f2 k (C.getD k 0) (by omega) (hC6 _ (getD_mem (by omega)))) (cwV 1 hts (lw_V q1231 q1041 q1042 q43 q1043) rfl rfl rfl (by decide +kernel) ⟨Nat.le_of_ble_eq_true rfl, Nat.le_of_ble_eq_true rfl⟩) (sp_preV hE hS hFk_5 hPk_5 trivial (sp_recv (ci := 2) hK (hSep.cel (k := 0) rfl) rfl)) rfl rfl hl.1 rfl (lv_room (Nat.le_of_ble_eq_true rfl)) dX3_copy_25 ⟨by first | exact Nat.le_of_ble_eq_true rfl | omega | (dsimp only; omega), by first | exact Nat.le_of_ble_eq_true rfl | omega | (dsimp only; omega)⟩) hS hFk_5 hJk_5 (fun r_6 u_7 H locs hpk_5 hSep hS hzk_5 => ?_)
        obtain rfl : r_6 = (nI (k + 1)) := hpk_5
        refine W.cs (cells' := 2) (slots' := 22) rfl rfl ?_
        have hSep : Sep G.1 clA (Fz (fun _ => False) s.heap.size) [pts q_1 (.inr (2, [.ref ch2, .int (nI (k + 1))])), pts ch2 (.inl (G.2.1 1, 20, .inl (upd f2 k (nI (C.getD k 0)))))] H := hSep
        refine lv_istore_n (lv' := [(3, .int (nI (k + 1))), (2, .int (nI k)), (1, .ref q_1), (0, .ref q1)]) hx hb dX3_copy_28 rfl hl (by decide) rfl (fun ls hl => ?_)
        refine lv_iinc (v := (nI (k + 1))) (lv' := [(2, .int (nI (k + 1))), (3, .int (nI (k + 1))), (1, .ref q_1), (0, .ref q1)]) hx hb dX3_copy_29 hl (k := 1) rfl (nI_inc k 1) (by decide) rfl (fun ls hl => ?_)
        refine lv_goto (tgt := 10) hx hb dX3_copy_32 (by decide) ?_
        exact ih10 (k + 1) (upd f2 k (nI (C.getD k 0))) (by omega) (by omega) (fun j h => by by_cases e9 : j = k; rw [e9, upd_s rfl]; rw [upd_n e9]; exact hp10_1 j (by omega)) _ _ _ hSep hS (lv_sub hl [0, 2, 3] rfl)
  exact L10 (C.length - 0 + 1) 0 (fun _ => nI 0) (Nat.lt_succ_self _) (Nat.zero_le _) (fun j h => absurd h (Nat.not_lt_zero _)) _ _ _ hSep hS (lv_sub hl [0, 1, 2] rfl)
