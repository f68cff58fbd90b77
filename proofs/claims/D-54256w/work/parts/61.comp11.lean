set_option maxRecDepth 100000
set_option maxHeartbeats 600000 in
set_option maxRecDepth 100000 in
theorem m_X10_isUsed (l : Launch) (G : EVT) (sz : Nat) (q1 : Nat) (aW : Nat) (aR : Nat) (bn : Int32) (pt : Int32) (be : Option Nat) (fR : Nat → Int32) (w1 : Nat) (s9 : List Nat) (hw : w1 < 18) (hp : Pre fR s9) (h5 : s9.length ≤ 5) (hs18 : ∀ w ∈ s9, w < 18) : Met l yX10_isUsed (ws_ yX10_isUsed cX10_isUsed 5 (some .boolean)) ({ frames := 1, cells := 0, slots := 0, locals := 40 } : Room) (SPc G (fun _ => False) sz [.ref q1, .int (nI w1), .int (nI s9.length)] [] (fun H => va_P G.1 clA [(q1, .inr (8, [.ref aW, .ref aR, .int bn, .int pt, va_rf be])), (aR, .inl (G.2.1 0, 5, .inl fR))] H)) (SQi G (fun _ => False) sz (fun (r : Int32) (u : Unit) => r = (bI (decide (w1 ∈ s9)))) (fun (u : Unit) => [])) (0) (0) (Fz (fun _ => False) sz) := by
  refine sp_of RX10 (by decide) rfl (Nat.le_of_ble_eq_true rfl) ?_
  intro p e s m args below meth c ls QQ hx hb hr hts hown hlocks hml hnm hsz hSep hΦ hE hS hl hQ
  subst hsz
  have hK := hE.1
  have hl : lv_has ls 5 [(0, .ref q1), (1, .int (nI w1)), (2, .int (nI s9.length))] := hl
  refine lv_iconst (v := (nI 0)) hx hb dX10_isUsed_0 (by decide) ?_
  refine lv_istore_n (lv' := [(3, .int (nI 0)), (0, .ref q1), (1, .int (nI w1)), (2, .int (nI s9.length))]) hx hb dX10_isUsed_1 rfl hl (by decide) rfl (fun ls hl => ?_)
  refine lv_iconst (v := (nI 0)) hx hb dX10_isUsed_2 (by decide) ?_
  refine lv_istore (lv' := [(4, .int (nI 0)), (3, .int (nI 0)), (0, .ref q1), (1, .int (nI w1)), (2, .int (nI s9.length))]) hx hb dX10_isUsed_3 hl (by decide) rfl (fun ls hl => ?_)
  have L5 : ∀ (fu : Nat) (k : Nat) (b9 : Bool) , s9.length - k < fu → (k ≤ s9.length) → (b9 = decide (w1 ∈ s9.take k)) → ∀ (H : Heap) (locs : List Loc) (ls : Array Slot), Sep G.1 clA (Fz (fun _ => False) s.heap.size) [] H → va_S (Fz (fun _ => False) s.heap.size) s.heap H locs → lv_has ls 5 [(4, .int (nI k)), (3, .int (bI b9)), (0, .ref q1), (1, .int (nI w1)), (2, .int (nI s9.length))] → W p l e ({ frames := 1, cells := 0, slots := 0, locals := 40 } : Room) s m args below meth c H locs (0) (0) QQ (F0 m 5 ls []) := by
    intro fu
    induction fu with
    | zero => intro k b9 hm; exact absurd hm (Nat.not_lt_zero _)
    | succ fu ih5 =>
      intro k b9 hm5 hp5_0 hp5_1 H locs ls hSep hS hl
      refine lv_iload hx hb dX10_isUsed_5 (lv_at hl 0 rfl) ?_
      refine lv_iload_n hx hb dX10_isUsed_7 rfl (lv_at hl 4 rfl) ?_
      refine n_icmp_ge (tgt := 38) hx hb (by omega) (by omega) dX10_isUsed_8 (by decide) (fun c8 => ?_) (fun c8 => ?_)
      · refine lv_iload_n hx hb dX10_isUsed_38 rfl (lv_at hl 1 rfl) ?_
        rw [hQ]
        exact r_z (r := (bI b9)) (u := ()) hx hb hr (bI_nar _) (by rw [hp5_1, List.take_of_length_le (by omega)]) hSep hS (by first | exact Nat.le_of_ble_eq_true rfl | omega | (dsimp only; omega)) (by first | exact Nat.le_of_ble_eq_true rfl | omega | (dsimp only; omega)) dX10_isUsed_39 hlocks
      · have L31 : ∀ (b8 : Bool) , (b8 = decide (w1 ∈ s9.take (k + 1))) → ∀ (H : Heap) (locs : List Loc) (ls : Array Slot), Sep G.1 clA (Fz (fun _ => False) s.heap.size) [] H → va_S (Fz (fun _ => False) s.heap.size) s.heap H locs → lv_has ls 5 [(4, .int (nI k)), (3, .int (bI b9)), (0, .ref q1), (1, .int (nI w1)), (2, .int (nI s9.length))] → W p l e ({ frames := 1, cells := 0, slots := 0, locals := 40 } : Room) s m args below meth c H locs (0) (0) QQ (F0 m 31 ls [.int (bI b8)]) := by
          intro b8 hp31_0 H locs ls hSep hS hl
          refine lv_istore_n (lv' := [(3, .int (bI b8)), (4, .int (nI k)), (0, .ref q1), (1, .int (nI w1)), (2, .int (nI s9.length))]) hx hb dX10_isUsed_31 rfl hl (by decide) rfl (fun ls hl => ?_)
          refine lv_iinc (v := (nI (k + 1))) (lv' := [(4, .int (nI (k + 1))), (3, .int (bI b8)), (0, .ref q1), (1, .int (nI w1)), (2, .int (nI s9.length))]) hx hb dX10_isUsed_32 hl (k := 1) rfl (nI_inc k 1) (by decide) rfl (fun ls hl => ?_)
          refine lv_goto (tgt := 5) hx hb dX10_isUsed_35 (by decide) ?_
          exact ih5 (k + 1) b8 (by omega) (by omega) (hp31_0) _ _ _ hSep hS (lv_sub hl [0, 1, 2, 3, 4] rfl)
        refine lv_iload_n hx hb dX10_isUsed_11 rfl (lv_at hl 1 rfl) ?_
        refine b_if_ne (tgt := 26) hx hb dX10_isUsed_12 (by decide) (fun c12 => ?_) (fun c12 => ?_)
        · refine lv_iconst (v := (nI 1)) hx hb dX10_isUsed_26 (by decide) ?_
          refine lv_goto (tgt := 31) hx hb dX10_isUsed_27 (by decide) ?_
          exact L31 true (by rw [take_s (by omega)]; first | (have h9 : w1 ∈ s9.take k := of_decide_eq_true (hp5_1.symm.trans c12); exact (decide_eq_true (List.mem_append_left _ h9)).symm) | exact (decide_eq_true (List.mem_append_right _ (by rw [c23]; exact List.mem_singleton.mpr rfl))).symm) _ _ _ hSep hS (lv_sub hl [0, 1, 2, 3, 4] rfl)
        · refine lv_aload_n hx hb dX10_isUsed_15 rfl (lv_at hl 2 rfl) ?_
          refine va_get (D := G.1) (ci := 8) (v := .ref aR) (C := RX10) (T := TX10) (N := 5) hx hb hts in_X10 hown hK (ro0 hΦ hS) 0 rfl rfl 1 (by decide) (hts _ q1051) (fun _ h9 => h9) rfl dX10_isUsed_16 ?_
          refine lv_iload hx hb dX10_isUsed_19 (lv_at hl 0 rfl) ?_
          refine n_iald (i := k) hx hb hK ((ro0 hΦ hS).sub [1] rfl) 0 rfl (by omega) (by omega) dX10_isUsed_21 ?_
          refine n_eq (y := (nI (s9.getD k 0))) (hp k (by omega)) ?_
          refine lv_iload_n hx hb dX10_isUsed_22 rfl (lv_at hl 3 rfl) ?_
          refine n_icmp_ne (tgt := 30) hx hb (by first | (have := getD_lt hs18 (show k < s9.length by omega); omega) | omega) (by first | (have := getD_lt hs18 (show k < s9.length by omega); omega) | omega) dX10_isUsed_23 (by decide) (fun c23 => ?_) (fun c23 => ?_)
          · refine lv_iconst (v := (nI 0)) hx hb dX10_isUsed_30 (by decide) ?_
            exact L31 false (by rw [take_s (by omega)]; exact (decide_eq_false (fun h => by rcases List.mem_append.mp h with z | z; exact of_decide_eq_false (hp5_1.symm.trans c12) z; exact c23 (List.mem_singleton.mp z).symm)).symm) _ _ _ hSep hS (lv_sub hl [0, 1, 2, 3, 4] rfl)
          · refine lv_iconst (v := (nI 1)) hx hb dX10_isUsed_26 (by decide) ?_
            refine lv_goto (tgt := 31) hx hb dX10_isUsed_27 (by decide) ?_
            exact L31 true (by rw [take_s (by omega)]; first | (have h9 : w1 ∈ s9.take k := of_decide_eq_true (hp5_1.symm.trans c12); exact (decide_eq_true (List.mem_append_left _ h9)).symm) | exact (decide_eq_true (List.mem_append_right _ (by rw [c23]; exact List.mem_singleton.mpr rfl))).symm) _ _ _ hSep hS (lv_sub hl [0, 1, 2, 3, 4] rfl)
  exact L5 (s9.length - 0 + 1) 0 false (Nat.lt_succ_self _) (Nat.zero_le _) (by simp) _ _ _ hSep hS (lv_sub hl [0, 1, 2, 3, 4] rfl)

set_option maxHeartbeats 600000 in
set_option maxRecDepth 100000 in
theorem m_X10_sentence (l : Launch) (G : EVT) (sz : Nat) (q1 : Nat) (aW : Nat) (aR : Nat) (bn : Int32) (pt : Int32) (be : Option Nat) (fR : Nat → Int32) (s9 : List Nat) (hp : Pre fR s9) (h5 : s9.length ≤ 5) (hs18 : ∀ w ∈ s9, w < 18) : Met l yX10_sentence (ws_ yX10_sentence cX10_sentence 5 (some (.object "TaleDuel$Sentence"))) ({ frames := 2, cells := 2, slots := 22, locals := 54 } : Room) (SPc G (fun _ => False) sz [.ref q1, .int (nI s9.length)] [] (fun H => va_P G.1 clA [(q1, .inr (8, [.ref aW, .ref aR, .int bn, .int pt, va_rf be])), (aR, .inl (G.2.1 0, 5, .inl fR))] H)) (SQr G (fun _ => False) sz (fun (u : Nat × (Nat → Int32)) => Pre u.2 (s9.map (· + 97))) (fun (u : Nat × (Nat → Int32)) (ra : Nat) => [pts ra (.inr (2, [.ref u.1, .int (nI s9.length)])), pts u.1 (.inl (G.2.1 1, 20, .inl u.2))])) (2) (22) (Fz (fun _ => False) sz) := by
  refine sp_of RX10 (by decide) rfl (Nat.le_of_ble_eq_true rfl) ?_
  intro p e s m args below meth c ls QQ hx hb hr hts hown hlocks hml hnm hsz hSep hΦ hE hS hl hQ
  subst hsz
  have hK := hE.1
  have hl : lv_has ls 5 [(0, .ref q1), (1, .int (nI s9.length))] := hl
  refine s_new (ci := 2) (fs := [.null, .int (nI 0)]) (C := RX3) (T := TX3) (N := 2) hx hb hts in_X3 tyX3 tyX3_ok hown (hts _ q1038) (hts _ q122) (hts _ q43) hK hSep hS (fun q h => Fz.new h) rfl (fun j hj => by rcases (show j = 0 ∨ j = 1 by omega) with rfl | rfl <;> rfl) (by first | exact Nat.le_of_ble_eq_true rfl | omega | (dsimp only; omega)) (by first | exact Nat.le_of_ble_eq_true rfl | omega | (dsimp only; omega)) dX10_sentence_0 (fun q_1 H hSep hS => ?_)
  have hSep : Sep G.1 clA (Fz (fun _ => False) s.heap.size) [pts q_1 (.inr (2, [.null, .int (nI 0)]))] H := hSep
  refine W.cs (cells' := 1) (slots' := 2) rfl rfl ?_
  refine lv_dup hx hb dX10_sentence_3 rfl ?_
  obtain ⟨Fk_2, hFk_2, hPk_2, hJk_2⟩ := hSep.cut (Pc := [pts q_1 (.inr (2, [.null, .int (nI 0)]))]) (Pr := []) (fun q h => Fz.new (Nat.le_trans hS.1 h)) [0] [] rfl rfl rfl rfl (by decide)
  refine c_v (va_runIN (As := []) (rest := [.ref q_1]) ⟨hx, hb, hml, hown, hts⟩ (m_X3_init l G Fk_2 H.size q_1 ) ⟨va_cnB 0 hts (lw_meth q125) rfl rfl rfl (hE.2.1 _ q1039 rfl) (hts _ q43) (by decide +kernel) ⟨Nat.le_of_ble_eq_true rfl, Nat.le_of_ble_eq_true rfl⟩, rfl, hts _ q124⟩ (sp_preS hE hS hFk_2 hPk_2 trivial) rfl rfl hl.1 rfl (lv_room (Nat.le_of_ble_eq_true rfl)) dX10_sentence_4 ⟨by first | exact Nat.le_of_ble_eq_true rfl | omega | (dsimp only; omega), by first | exact Nat.le_of_ble_eq_true rfl | omega | (dsimp only; omega)⟩) hS hFk_2 hJk_2 (fun u_4 H locs hpk_2 hSep hS hzk_2 => ?_)
  obtain ⟨ch2, rfl⟩ : ∃ z, z = u_4 := ⟨_, rfl⟩
  refine W.cs (cells' := 2) (slots' := 22) rfl rfl ?_
  have hSep : Sep G.1 clA (Fz (fun _ => False) s.heap.size) [pts q_1 (.inr (2, [.ref ch2, .int (nI 0)])), pts ch2 (.inl (G.2.1 1, 20, .inl (fun _ => nI 0)))] H := hSep
  refine lv_astore_n (lv' := [(2, .ref q_1), (0, .ref q1), (1, .int (nI s9.length))]) hx hb dX10_sentence_7 rfl hl (by decide) rfl (fun ls hl => ?_)
  refine lv_iconst (v := (nI 0)) hx hb dX10_sentence_8 (by decide) ?_
  refine lv_istore_n (lv' := [(3, .int (nI 0)), (2, .ref q_1), (0, .ref q1), (1, .int (nI s9.length))]) hx hb dX10_sentence_9 rfl hl (by decide) rfl (fun ls hl => ?_)
  have L10 : ∀ (fu : Nat) (k : Nat) (f2 : Nat → Int32) , s9.length - k < fu → (k ≤ s9.length) → (∀ j, j < k → f2 j = nI (s9.getD j 0 + 97)) → ∀ (H : Heap) (locs : List Loc) (ls : Array Slot), Sep G.1 clA (Fz (fun _ => False) s.heap.size) [pts q_1 (.inr (2, [.ref ch2, .int (nI k)])), pts ch2 (.inl (G.2.1 1, 20, .inl f2))] H → va_S (Fz (fun _ => False) s.heap.size) s.heap H locs → lv_has ls 5 [(3, .int (nI k)), (2, .ref q_1), (0, .ref q1), (1, .int (nI s9.length))] → W p l e ({ frames := 2, cells := 2, slots := 22, locals := 54 } : Room) s m args below meth c H locs (2) (22) QQ (F0 m 10 ls []) := by
    intro fu
    induction fu with
    | zero => intro k f2 hm; exact absurd hm (Nat.not_lt_zero _)
    | succ fu ih10 =>
      intro k f2 hm10 hp10_0 hp10_1 H locs ls hSep hS hl
      refine lv_iload_n hx hb dX10_sentence_10 rfl (lv_at hl 0 rfl) ?_
      refine lv_iload_n hx hb dX10_sentence_11 rfl (lv_at hl 3 rfl) ?_
      refine n_icmp_ge (tgt := 37) hx hb (by omega) (by omega) dX10_sentence_12 (by decide) (fun c12 => ?_) (fun c12 => ?_)
      · obtain rfl : k = s9.length := by omega
        refine lv_aload_n hx hb dX10_sentence_37 rfl (lv_at hl 1 rfl) ?_
        rw [hQ]
        exact r_r (r := q_1) (u := (ch2, f2)) hx hb hr (Or.inl ⟨_, rfl⟩) (by intro j hj; rw [List.length_map] at hj; refine (hp10_1 j hj).trans ?_; rw [List.getD_eq_getElem?_getD, List.getD_eq_getElem?_getD, List.getElem?_map, List.getElem?_eq_getElem hj]; rfl) hSep hS (by first | exact Nat.le_of_ble_eq_true rfl | omega | (dsimp only; omega)) (by first | exact Nat.le_of_ble_eq_true rfl | omega | (dsimp only; omega)) dX10_sentence_38 hlocks
      · refine lv_aload_n hx hb dX10_sentence_15 rfl (lv_at hl 1 rfl) ?_
        refine lv_bipush (v := (nI 97)) hx hb dX10_sentence_16 (by decide) ?_
        refine lv_aload_n hx hb dX10_sentence_18 rfl (lv_at hl 2 rfl) ?_
        refine va_get (D := G.1) (ci := 8) (v := .ref aR) (C := RX10) (T := TX10) (N := 5) hx hb hts in_X10 hown hK (ro0 hΦ hS) 0 rfl rfl 1 (by decide) (hts _ q1051) (fun _ h9 => h9) rfl dX10_sentence_19 ?_
        refine lv_iload_n hx hb dX10_sentence_22 rfl (lv_at hl 0 rfl) ?_
        refine n_iald (i := k) hx hb hK ((ro0 hΦ hS).sub [1] rfl) 0 rfl (by omega) (by omega) dX10_sentence_23 ?_
        refine n_eq (y := (nI (s9.getD k 0))) (hp k (by omega)) ?_
        refine n_iadd hx hb dX10_sentence_24 ?_
        refine lv_i2c hx hb dX10_sentence_25 rfl ?_
        refine n_eq (y := (nI (97 + s9.getD k 0))) (i2c_nI (by have := getD_lt hs18 (show k < s9.length by omega); omega)) ?_
        obtain ⟨Fk_5, hFk_5, hPk_5, hJk_5⟩ := hSep.cut (Pc := [pts q_1 (.inr (2, [.ref ch2, .int (nI k)])), pts ch2 (.inl (G.2.1 1, 20, .inl f2))]) (Pr := []) (fun q h => Fz.new (Nat.le_trans hS.1 h)) [0, 1] [] rfl rfl rfl rfl (by decide)
        refine c_i (va_runV (As := [.int (nI (97 + s9.getD k 0))]) (rest := []) ⟨hx, hb, hml, hown, hts⟩ (m_X3_add l G Fk_5 H.size q_1 ch2 f2 k (97 + s9.getD k 0) (by omega) (by have := getD_lt hs18 (show k < s9.length by omega); omega)) (cwV 1 hts (lw_V q1040 q1041 q1042 q43 q1043) rfl rfl rfl (by decide +kernel) ⟨Nat.le_of_ble_eq_true rfl, Nat.le_of_ble_eq_true rfl⟩) (sp_preV hE hS hFk_5 hPk_5 trivial (sp_recv (ci := 2) hK (hSep.cel (k := 0) rfl) rfl)) rfl rfl hl.1 rfl (lv_room (Nat.le_of_ble_eq_true rfl)) dX10_sentence_26 ⟨by first | exact Nat.le_of_ble_eq_true rfl | omega | (dsimp only; omega), by first | exact Nat.le_of_ble_eq_true rfl | omega | (dsimp only; omega)⟩) hS hFk_5 hJk_5 (fun r_6 u_7 H locs hpk_5 hSep hS hzk_5 => ?_)
        obtain rfl : r_6 = (nI (k + 1)) := hpk_5
        refine W.cs (cells' := 2) (slots' := 22) rfl rfl ?_
        have hSep : Sep G.1 clA (Fz (fun _ => False) s.heap.size) [pts q_1 (.inr (2, [.ref ch2, .int (nI (k + 1))])), pts ch2 (.inl (G.2.1 1, 20, .inl (upd f2 k (nI (97 + s9.getD k 0)))))] H := hSep
        refine lv_istore (lv' := [(4, .int (nI (k + 1))), (3, .int (nI k)), (2, .ref q_1), (0, .ref q1), (1, .int (nI s9.length))]) hx hb dX10_sentence_29 hl (by decide) rfl (fun ls hl => ?_)
        refine lv_iinc (v := (nI (k + 1))) (lv' := [(3, .int (nI (k + 1))), (4, .int (nI (k + 1))), (2, .ref q_1), (0, .ref q1), (1, .int (nI s9.length))]) hx hb dX10_sentence_31 hl (k := 1) rfl (nI_inc k 1) (by decide) rfl (fun ls hl => ?_)
        refine lv_goto (tgt := 10) hx hb dX10_sentence_34 (by decide) ?_
        exact ih10 (k + 1) (upd f2 k (nI (97 + s9.getD k 0))) (by omega) (by omega) (fun j h => by by_cases e9 : j = k; rw [e9, upd_s rfl, Nat.add_comm]; rw [upd_n e9]; exact hp10_1 j (by omega)) _ _ _ hSep hS (lv_sub hl [0, 2, 3, 4] rfl)
  exact L10 (s9.length - 0 + 1) 0 (fun _ => nI 0) (Nat.lt_succ_self _) (Nat.zero_le _) (fun j h => absurd h (Nat.not_lt_zero _)) _ _ _ hSep hS (lv_sub hl [0, 1, 2, 3] rfl)
