set_option maxRecDepth 100000
set_option maxHeartbeats 600000 in
set_option maxRecDepth 100000 in
theorem m_J12_init (l : Launch) (G : EVT) (F : Nat → Prop) (sz : Nat) (it : Nat) (q1 : Nat) (mm : Int32) (bb : Nat) (n1 : Nat)  : Met l yJ12_init (ws_ yJ12_init cJ12_init 2 none) ({ frames := 1, cells := 0, slots := 0, locals := 34 } : Room) (SPc G F sz [.ref it, .ref q1] [pts it (.inr (11, [.int (nI 0), .int (nI 0), .int (nI 0), .null])), pts q1 (.inr (10, [.int mm, .ref bb, .int (nI n1)]))] (fun _ => True)) (SQv G F sz (fun (u : Unit) => True) (fun (u : Unit) => [pts it (.inr (11, [.int (nI 0), .int (-1), .int mm, .ref q1])), pts q1 (.inr (10, [.int mm, .ref bb, .int (nI n1)]))])) (0) (0) (Fz F sz) := by
  refine sp_of RJ12 (by decide) rfl (Nat.le_of_ble_eq_true rfl) ?_
  intro p e s m args below meth c ls QQ hx hb hr hts hown hlocks hml hnm hsz hSep hΦ hE hS hl hQ
  subst hsz
  have hK := hE.1
  have hl : lv_has ls 2 [(0, .ref it), (1, .ref q1)] := hl
  refine lv_aload_n hx hb dJ12_init_0 rfl (lv_at hl 0 rfl) ?_
  refine lv_aload_n hx hb dJ12_init_1 rfl (lv_at hl 1 rfl) ?_
  refine s_putF (ci := 11) (v := .ref q1) (ty := .object "java/util/ArrayList") (C := RJ12) (T := TJ12) (N := 4) hx hb hts in_J12 tyJ12 tyJ12_ok nmJ12 hown hK hSep hS 0 rfl rfl 3 (by decide) (hts _ q431) (fun _ h9 => h9) rfl hnm rfl (by decide +kernel) rfl rfl (Nat.le_of_ble_eq_true rfl) dJ12_init_2 (fun H locs hSep hS => ?_)
  have hSep : Sep G.1 clA (Fz F s.heap.size) [pts it (.inr (11, [.int (nI 0), .int (nI 0), .int (nI 0), .ref q1])), pts q1 (.inr (10, [.int mm, .ref bb, .int (nI n1)]))] H := hSep
  refine lv_aload_n hx hb dJ12_init_5 rfl (lv_at hl 0 rfl) ?_
  refine W.objInit hx hb hown (hts _ q427) (hts _ q81) (hts _ q82) rfl (by rw [hml]; exact hl.1) rfl dJ12_init_6 (Nat.le_of_ble_eq_true rfl) (Nat.le_of_ble_eq_true rfl) ?_
  refine W.eq (g2 := F0 m 9 ls []) rfl ?_
  refine lv_aload_n hx hb dJ12_init_9 rfl (lv_at hl 0 rfl) ?_
  refine lv_iconst (v := (-1)) hx hb dJ12_init_10 (by decide) ?_
  refine s_put (ci := 11) (v := .int (-1)) (ty := .int) (C := RJ12) (T := TJ12) (N := 4) hx hb hts in_J12 tyJ12 tyJ12_ok nmJ12 hown hK hSep hS 0 rfl rfl 1 (by decide) (hts _ q429) (fun _ h9 => h9) rfl (by decide +kernel) rfl rfl (Nat.le_of_ble_eq_true rfl) dJ12_init_11 (fun H locs hSep hS => ?_)
  have hSep : Sep G.1 clA (Fz F s.heap.size) [pts it (.inr (11, [.int (nI 0), .int (-1), .int (nI 0), .ref q1])), pts q1 (.inr (10, [.int mm, .ref bb, .int (nI n1)]))] H := hSep
  refine lv_aload_n hx hb dJ12_init_14 rfl (lv_at hl 0 rfl) ?_
  refine lv_aload_n hx hb dJ12_init_15 rfl (lv_at hl 0 rfl) ?_
  refine va_get (D := G.1) (ci := 11) (v := .ref q1) (C := RJ12) (T := TJ12) (N := 4) hx hb hts in_J12 hown hK (hSep.cel (k := 0) rfl) 0 rfl rfl 3 (by decide) (hts _ q431) (fun _ h9 => h9) rfl dJ12_init_16 ?_
  refine va_get (D := G.1) (ci := 10) (v := .int mm) (C := RJ16) (T := TJ16) (N := 3) hx hb hts in_J16 hown hK (hSep.cel (k := 1) rfl) 0 rfl rfl 0 (by decide) (hts _ q388) (fun x h9 => u_same (hts _ q389) x h9) rfl dJ12_init_19 ?_
  refine s_put (ci := 11) (v := .int mm) (ty := .int) (C := RJ12) (T := TJ12) (N := 4) hx hb hts in_J12 tyJ12 tyJ12_ok nmJ12 hown hK hSep hS 0 rfl rfl 2 (by decide) (hts _ q430) (fun _ h9 => h9) rfl (by decide +kernel) rfl rfl (Nat.le_of_ble_eq_true rfl) dJ12_init_22 (fun H locs hSep hS => ?_)
  have hSep : Sep G.1 clA (Fz F s.heap.size) [pts it (.inr (11, [.int (nI 0), .int (-1), .int mm, .ref q1])), pts q1 (.inr (10, [.int mm, .ref bb, .int (nI n1)]))] H := hSep
  rw [hQ]
  exact r_v (u := ()) hx hb hr (trivial) hSep hS (by first | exact Nat.le_of_ble_eq_true rfl | omega | (dsimp only; omega)) (by first | exact Nat.le_of_ble_eq_true rfl | omega | (dsimp only; omega)) dJ12_init_25 hlocks

set_option maxHeartbeats 600000 in
set_option maxRecDepth 100000 in
theorem m_J16_iterator (l : Launch) (G : EVT) (F : Nat → Prop) (sz : Nat) (q1 : Nat) (mm : Int32) (xs : List Nat)  : Met l yJ16_iterator (ws_ yJ16_iterator cJ16_iterator 1 (some (.object "java/util/Iterator"))) ({ frames := 2, cells := 1, slots := 4, locals := 55 } : Room) (SPc G F sz [.ref q1] [listA G q1 (mm) (xs)] (fun _ => True)) (SQr G F sz (fun (u : Unit) => True) (fun (u : Unit) (ra : Nat) => [listA G q1 (mm) (xs), pts ra (.inr (11, [.int (nI 0), .int (-1), .int mm, .ref q1]))])) (1) (4) (Fz F sz) := by
  refine sp_of RJ16 (by decide) rfl (Nat.le_of_ble_eq_true rfl) ?_
  intro p e s m args below meth c ls QQ hx hb hr hts hown hlocks hml hnm hsz hSep hΦ hE hS hl hQ
  subst hsz
  have hK := hE.1
  have hl : lv_has ls 1 [(0, .ref q1)] := hl
  rcases list_cs hSep (Pr := []) (k := 0) rfl [] rfl rfl (by decide) with ⟨rfl, hSep2⟩ | ⟨b, f, ⟨hx1, hx2⟩, hSep2⟩
  · have hSep := hSep2
    have hSep : Sep G.1 clA (Fz F s.heap.size) [pts q1 (.inr (10, [.int mm, .ref G.2.2.2.1, .int (nI 0)]))] s.heap := hSep
    refine s_new (ci := 11) (fs := [.int (nI 0), .int (nI 0), .int (nI 0), .null]) (C := RJ12) (T := TJ12) (N := 4) hx hb hts in_J12 tyJ12 tyJ12_ok hown (hts _ q422) (hts _ q423) (hts _ q56) hK hSep hS (fun q h => Fz.new h) rfl (fun j hj => by rcases (show j = 0 ∨ j = 1 ∨ j = 2 ∨ j = 3 by omega) with rfl | rfl | rfl | rfl <;> rfl) (by first | exact Nat.le_of_ble_eq_true rfl | omega | (dsimp only; omega)) (by first | exact Nat.le_of_ble_eq_true rfl | omega | (dsimp only; omega)) dJ16_iterator_0 (fun q_1 H hSep hS => ?_)
    have hSep : Sep G.1 clA (Fz F s.heap.size) [pts q1 (.inr (10, [.int mm, .ref G.2.2.2.1, .int (nI 0)])), pts q_1 (.inr (11, [.int (nI 0), .int (nI 0), .int (nI 0), .null]))] H := hSep
    refine W.cs (cells' := 1) (slots' := 4) rfl rfl ?_
    refine lv_dup hx hb dJ16_iterator_3 rfl ?_
    refine lv_aload_n hx hb dJ16_iterator_4 rfl (lv_at hl 0 rfl) ?_
    obtain ⟨Fk_2, hFk_2, hPk_2, hJk_2⟩ := hSep.cut (Pc := [pts q_1 (.inr (11, [.int (nI 0), .int (nI 0), .int (nI 0), .null])), pts q1 (.inr (10, [.int mm, .ref G.2.2.2.1, .int (nI 0)]))]) (Pr := []) (fun q h => Fz.new (Nat.le_trans hS.1 h)) [1, 0] [] rfl rfl rfl rfl (by decide)
    refine c_v (va_runI (As := [.ref q1]) (rest := [.ref q_1]) ⟨hx, hb, hml, hown, hts⟩ (m_J12_init l G Fk_2 H.size q_1 q1 mm G.2.2.2.1 0 ) (cwI 1 hts (lw_meth q426) rfl rfl rfl (hts _ q56) (hts _ q424) (hts _ q425) rfl (by decide +kernel) ⟨Nat.le_of_ble_eq_true rfl, Nat.le_of_ble_eq_true rfl⟩) (sp_preS hE hS hFk_2 hPk_2 trivial) rfl rfl hl.1 rfl (lv_room (Nat.le_of_ble_eq_true rfl)) dJ16_iterator_5 ⟨by first | exact Nat.le_of_ble_eq_true rfl | omega | (dsimp only; omega), by first | exact Nat.le_of_ble_eq_true rfl | omega | (dsimp only; omega)⟩) hS hFk_2 hJk_2 (fun u_4 H locs hpk_2 hSep hS hzk_2 => ?_)
    refine W.cs (cells' := 1) (slots' := 4) rfl rfl ?_
    have hSep : Sep G.1 clA (Fz F s.heap.size) [pts q_1 (.inr (11, [.int (nI 0), .int (-1), .int mm, .ref q1])), pts q1 (.inr (10, [.int mm, .ref G.2.2.2.1, .int (nI 0)]))] H := hSep
    rw [hQ]
    exact r_r (r := q_1) (u := ()) hx hb hr (Or.inl ⟨_, rfl⟩) (trivial) (Sep.pick (hSep.close (P := listA G q1 mm []) (Pc := [pts q1 (.inr (10, [.int mm, .ref G.2.2.2.1, .int (nI 0)]))]) (Pr := [pts q_1 (.inr (11, [.int (nI 0), .int (-1), .int mm, .ref q1]))]) [1] [0] rfl rfl rfl rfl (by decide) (fun w hw => list_a hw)) [1, 0] rfl rfl) hS (by first | exact Nat.le_of_ble_eq_true rfl | omega | (dsimp only; omega)) (by first | exact Nat.le_of_ble_eq_true rfl | omega | (dsimp only; omega)) dJ16_iterator_8 hlocks
  · have hSep := hSep2
    have hSep : Sep G.1 clA (Fz F s.heap.size) [pts q1 (.inr (10, [.int mm, .ref b, .int (nI xs.length)])), pts b (.inl (G.2.1 4, 10, .inr (.inr (.inr (.inr f)))))] s.heap := hSep
    refine s_new (ci := 11) (fs := [.int (nI 0), .int (nI 0), .int (nI 0), .null]) (C := RJ12) (T := TJ12) (N := 4) hx hb hts in_J12 tyJ12 tyJ12_ok hown (hts _ q422) (hts _ q423) (hts _ q56) hK hSep hS (fun q h => Fz.new h) rfl (fun j hj => by rcases (show j = 0 ∨ j = 1 ∨ j = 2 ∨ j = 3 by omega) with rfl | rfl | rfl | rfl <;> rfl) (by first | exact Nat.le_of_ble_eq_true rfl | omega | (dsimp only; omega)) (by first | exact Nat.le_of_ble_eq_true rfl | omega | (dsimp only; omega)) dJ16_iterator_0 (fun q_5 H hSep hS => ?_)
    have hSep : Sep G.1 clA (Fz F s.heap.size) [pts q1 (.inr (10, [.int mm, .ref b, .int (nI xs.length)])), pts b (.inl (G.2.1 4, 10, .inr (.inr (.inr (.inr f))))), pts q_5 (.inr (11, [.int (nI 0), .int (nI 0), .int (nI 0), .null]))] H := hSep
    refine W.cs (cells' := 1) (slots' := 4) rfl rfl ?_
    refine lv_dup hx hb dJ16_iterator_3 rfl ?_
    refine lv_aload_n hx hb dJ16_iterator_4 rfl (lv_at hl 0 rfl) ?_
    obtain ⟨Fk_6, hFk_6, hPk_6, hJk_6⟩ := hSep.cut (Pc := [pts q_5 (.inr (11, [.int (nI 0), .int (nI 0), .int (nI 0), .null])), pts q1 (.inr (10, [.int mm, .ref b, .int (nI xs.length)]))]) (Pr := [pts b (.inl (G.2.1 4, 10, .inr (.inr (.inr (.inr f)))))]) (fun q h => Fz.new (Nat.le_trans hS.1 h)) [2, 0] [1] rfl rfl rfl rfl (by decide)
    refine c_v (va_runI (As := [.ref q1]) (rest := [.ref q_5]) ⟨hx, hb, hml, hown, hts⟩ (m_J12_init l G Fk_6 H.size q_5 q1 mm b xs.length ) (cwI 1 hts (lw_meth q426) rfl rfl rfl (hts _ q56) (hts _ q424) (hts _ q425) rfl (by decide +kernel) ⟨Nat.le_of_ble_eq_true rfl, Nat.le_of_ble_eq_true rfl⟩) (sp_preS hE hS hFk_6 hPk_6 trivial) rfl rfl hl.1 rfl (lv_room (Nat.le_of_ble_eq_true rfl)) dJ16_iterator_5 ⟨by first | exact Nat.le_of_ble_eq_true rfl | omega | (dsimp only; omega), by first | exact Nat.le_of_ble_eq_true rfl | omega | (dsimp only; omega)⟩) hS hFk_6 hJk_6 (fun u_8 H locs hpk_6 hSep hS hzk_6 => ?_)
    refine W.cs (cells' := 1) (slots' := 4) rfl rfl ?_
    have hSep : Sep G.1 clA (Fz F s.heap.size) [pts b (.inl (G.2.1 4, 10, .inr (.inr (.inr (.inr f))))), pts q_5 (.inr (11, [.int (nI 0), .int (-1), .int mm, .ref q1])), pts q1 (.inr (10, [.int mm, .ref b, .int (nI xs.length)]))] H := hSep
    rw [hQ]
    exact r_r (r := q_5) (u := ()) hx hb hr (Or.inl ⟨_, rfl⟩) (trivial) (Sep.pick (hSep.close (P := listA G q1 mm xs) (Pc := [pts q1 (.inr (10, [.int mm, .ref b, .int (nI xs.length)])), pts b (.inl (G.2.1 4, 10, .inr (.inr (.inr (.inr f)))))]) (Pr := [pts q_5 (.inr (11, [.int (nI 0), .int (-1), .int mm, .ref q1]))]) [2, 0] [1] rfl rfl rfl rfl (by decide) (fun w hw => list_b rfl hx1 hx2 hw)) [1, 0] rfl rfl) hS (by first | exact Nat.le_of_ble_eq_true rfl | omega | (dsimp only; omega)) (by first | exact Nat.le_of_ble_eq_true rfl | omega | (dsimp only; omega)) dJ16_iterator_8 hlocks

set_option maxHeartbeats 600000 in
set_option maxRecDepth 100000 in
theorem m_J12_hasNext (l : Launch) (G : EVT) (F : Nat → Prop) (sz : Nat) (it : Nat) (k1 : Nat) (lr : Int32) (q1 : Nat) (mm : Int32) (xs : List Nat) (hk : k1 ≤ xs.length) : Met l yJ12_hasNext (ws_ yJ12_hasNext cJ12_hasNext 1 (some .boolean)) ({ frames := 0, cells := 0, slots := 0, locals := 0 } : Room) (SPc G F sz [.ref it] [pts it (.inr (11, [.int (nI k1), .int lr, .int mm, .ref q1])), listA G q1 (mm) (xs)] (fun _ => True)) (SQi G F sz (fun (r : Int32) (u : Unit) => r = (bI (decide (k1 < xs.length)))) (fun (u : Unit) => [pts it (.inr (11, [.int (nI k1), .int lr, .int mm, .ref q1])), listA G q1 (mm) (xs)])) (0) (0) (Fz F sz) := by
  refine sp_of RJ12 (by decide) rfl (Nat.le_of_ble_eq_true rfl) ?_
  intro p e s m args below meth c ls QQ hx hb hr hts hown hlocks hml hnm hsz hSep hΦ hE hS hl hQ
  subst hsz
  have hK := hE.1
  have hl : lv_has ls 1 [(0, .ref it)] := hl
  have hk9 := hk
  rcases list_cs hSep (Pr := [pts it (.inr (11, [.int (nI k1), .int lr, .int mm, .ref q1]))]) (k := 1) rfl [0] rfl rfl (by decide) with ⟨rfl, hSep2⟩ | ⟨b, f, ⟨hx1, hx2⟩, hSep2⟩
  · have hSep := hSep2
    have hSep : Sep G.1 clA (Fz F s.heap.size) [pts it (.inr (11, [.int (nI k1), .int lr, .int mm, .ref q1])), pts q1 (.inr (10, [.int mm, .ref G.2.2.2.1, .int (nI 0)]))] s.heap := hSep
    refine lv_aload_n hx hb dJ12_hasNext_0 rfl (lv_at hl 0 rfl) ?_
    refine va_get (D := G.1) (ci := 11) (v := .int (nI k1)) (C := RJ12) (T := TJ12) (N := 4) hx hb hts in_J12 hown hK (hSep.cel (k := 0) rfl) 0 rfl rfl 0 (by decide) (hts _ q428) (fun _ h9 => h9) rfl dJ12_hasNext_1 ?_
    refine lv_aload_n hx hb dJ12_hasNext_4 rfl (lv_at hl 0 rfl) ?_
    refine va_get (D := G.1) (ci := 11) (v := .ref q1) (C := RJ12) (T := TJ12) (N := 4) hx hb hts in_J12 hown hK (hSep.cel (k := 0) rfl) 0 rfl rfl 3 (by decide) (hts _ q431) (fun _ h9 => h9) rfl dJ12_hasNext_5 ?_
    refine va_getN (D := G.1) (ci := 10) (v := .int (nI 0)) (C := RJ16) (T := TJ16) (N := 3) hx hb hts in_J16 hown hK (hSep.cel (k := 1) rfl) 0 rfl rfl 2 (by decide) (va_Nw.use rfl (hE.2.1 _ q385 rfl)) (fun _ h9 => h9) rfl dJ12_hasNext_8 ?_
    refine n_icmp_eq (tgt := 18) hx hb (by have h0 : k1 ≤ 0 := hk9; omega) (by have h0 : k1 ≤ 0 := hk9; omega) dJ12_hasNext_11 (by decide) (fun c11 => ?_) (fun c11 => ?_)
    · refine lv_iconst (v := (nI 0)) hx hb dJ12_hasNext_18 (by decide) ?_
      rw [hQ]
      exact r_z (r := (nI 0)) (u := ()) hx hb hr (by decide) (by first | exact (bI_df (show ¬ k1 < 0 by omega)).symm | exact absurd hk9 (show ¬ k1 ≤ 0 by omega)) (hSep.close (P := listA G q1 mm []) (Pc := [pts q1 (.inr (10, [.int mm, .ref G.2.2.2.1, .int (nI 0)]))]) (Pr := [pts it (.inr (11, [.int (nI k1), .int lr, .int mm, .ref q1]))]) [1] [0] rfl rfl rfl rfl (by decide) (fun w hw => list_a hw)) hS (by first | exact Nat.le_of_ble_eq_true rfl | omega | (dsimp only; omega)) (by first | exact Nat.le_of_ble_eq_true rfl | omega | (dsimp only; omega)) dJ12_hasNext_19 hlocks
    · refine lv_iconst (v := (nI 1)) hx hb dJ12_hasNext_14 (by decide) ?_
      refine lv_goto (tgt := 19) hx hb dJ12_hasNext_15 (by decide) ?_
      rw [hQ]
      exact r_z (r := (nI 1)) (u := ()) hx hb hr (by decide) (by first | exact (bI_df (show ¬ k1 < 0 by omega)).symm | exact absurd hk9 (show ¬ k1 ≤ 0 by omega)) (hSep.close (P := listA G q1 mm []) (Pc := [pts q1 (.inr (10, [.int mm, .ref G.2.2.2.1, .int (nI 0)]))]) (Pr := [pts it (.inr (11, [.int (nI k1), .int lr, .int mm, .ref q1]))]) [1] [0] rfl rfl rfl rfl (by decide) (fun w hw => list_a hw)) hS (by first | exact Nat.le_of_ble_eq_true rfl | omega | (dsimp only; omega)) (by first | exact Nat.le_of_ble_eq_true rfl | omega | (dsimp only; omega)) dJ12_hasNext_19 hlocks
  · have hSep := hSep2
    have hSep : Sep G.1 clA (Fz F s.heap.size) [pts it (.inr (11, [.int (nI k1), .int lr, .int mm, .ref q1])), pts q1 (.inr (10, [.int mm, .ref b, .int (nI xs.length)])), pts b (.inl (G.2.1 4, 10, .inr (.inr (.inr (.inr f)))))] s.heap := hSep
    refine lv_aload_n hx hb dJ12_hasNext_0 rfl (lv_at hl 0 rfl) ?_
    refine va_get (D := G.1) (ci := 11) (v := .int (nI k1)) (C := RJ12) (T := TJ12) (N := 4) hx hb hts in_J12 hown hK (hSep.cel (k := 0) rfl) 0 rfl rfl 0 (by decide) (hts _ q428) (fun _ h9 => h9) rfl dJ12_hasNext_1 ?_
    refine lv_aload_n hx hb dJ12_hasNext_4 rfl (lv_at hl 0 rfl) ?_
    refine va_get (D := G.1) (ci := 11) (v := .ref q1) (C := RJ12) (T := TJ12) (N := 4) hx hb hts in_J12 hown hK (hSep.cel (k := 0) rfl) 0 rfl rfl 3 (by decide) (hts _ q431) (fun _ h9 => h9) rfl dJ12_hasNext_5 ?_
    refine va_getN (D := G.1) (ci := 10) (v := .int (nI xs.length)) (C := RJ16) (T := TJ16) (N := 3) hx hb hts in_J16 hown hK (hSep.cel (k := 1) rfl) 0 rfl rfl 2 (by decide) (va_Nw.use rfl (hE.2.1 _ q385 rfl)) (fun _ h9 => h9) rfl dJ12_hasNext_8 ?_
    refine n_icmp_eq (tgt := 18) hx hb (by omega) (by omega) dJ12_hasNext_11 (by decide) (fun c11 => ?_) (fun c11 => ?_)
    · refine lv_iconst (v := (nI 0)) hx hb dJ12_hasNext_18 (by decide) ?_
      rw [hQ]
      exact r_z (r := (nI 0)) (u := ()) hx hb hr (by decide) (by first | exact (bI_df (show ¬ k1 < xs.length by omega)).symm | exact (bI_dt (show k1 < xs.length by omega)).symm) (hSep.close (P := listA G q1 mm xs) (Pc := [pts q1 (.inr (10, [.int mm, .ref b, .int (nI xs.length)])), pts b (.inl (G.2.1 4, 10, .inr (.inr (.inr (.inr f)))))]) (Pr := [pts it (.inr (11, [.int (nI k1), .int lr, .int mm, .ref q1]))]) [1, 2] [0] rfl rfl rfl rfl (by decide) (fun w hw => list_b rfl hx1 hx2 hw)) hS (by first | exact Nat.le_of_ble_eq_true rfl | omega | (dsimp only; omega)) (by first | exact Nat.le_of_ble_eq_true rfl | omega | (dsimp only; omega)) dJ12_hasNext_19 hlocks
    · refine lv_iconst (v := (nI 1)) hx hb dJ12_hasNext_14 (by decide) ?_
      refine lv_goto (tgt := 19) hx hb dJ12_hasNext_15 (by decide) ?_
      rw [hQ]
      exact r_z (r := (nI 1)) (u := ()) hx hb hr (by decide) (by first | exact (bI_df (show ¬ k1 < xs.length by omega)).symm | exact (bI_dt (show k1 < xs.length by omega)).symm) (hSep.close (P := listA G q1 mm xs) (Pc := [pts q1 (.inr (10, [.int mm, .ref b, .int (nI xs.length)])), pts b (.inl (G.2.1 4, 10, .inr (.inr (.inr (.inr f)))))]) (Pr := [pts it (.inr (11, [.int (nI k1), .int lr, .int mm, .ref q1]))]) [1, 2] [0] rfl rfl rfl rfl (by decide) (fun w hw => list_b rfl hx1 hx2 hw)) hS (by first | exact Nat.le_of_ble_eq_true rfl | omega | (dsimp only; omega)) (by first | exact Nat.le_of_ble_eq_true rfl | omega | (dsimp only; omega)) dJ12_hasNext_19 hlocks

set_option maxHeartbeats 600000 in
set_option maxRecDepth 100000 in
theorem m_J12_checkForComodification (l : Launch) (G : EVT) (sz : Nat) (it : Nat) (k1 : Nat) (lr : Int32) (q1 : Nat) (mm : Int32) (bb : Nat) (n1 : Nat)  : Met l yJ12_checkForComodification (ws_ yJ12_checkForComodification cJ12_checkForComodification 1 none) ({ frames := 0, cells := 0, slots := 0, locals := 0 } : Room) (SPc G (fun _ => False) sz [.ref it] [] (fun H => va_P G.1 clA [(it, .inr (11, [.int (nI k1), .int lr, .int mm, .ref q1])), (q1, .inr (10, [.int mm, .ref bb, .int (nI n1)]))] H)) (SQv G (fun _ => False) sz (fun (u : Unit) => True) (fun (u : Unit) => [])) (0) (0) (Fz (fun _ => False) sz) := by
  refine sp_of RJ12 (by decide) rfl (Nat.le_of_ble_eq_true rfl) ?_
  intro p e s m args below meth c ls QQ hx hb hr hts hown hlocks hml hnm hsz hSep hΦ hE hS hl hQ
  subst hsz
  have hK := hE.1
  have hl : lv_has ls 1 [(0, .ref it)] := hl
  refine lv_aload_n hx hb dJ12_checkForComodification_0 rfl (lv_at hl 0 rfl) ?_
  refine va_get (D := G.1) (ci := 11) (v := .ref q1) (C := RJ12) (T := TJ12) (N := 4) hx hb hts in_J12 hown hK (ro0 hΦ hS) 0 rfl rfl 3 (by decide) (hts _ q431) (fun _ h9 => h9) rfl dJ12_checkForComodification_1 ?_
  refine va_get (D := G.1) (ci := 10) (v := .int mm) (C := RJ16) (T := TJ16) (N := 3) hx hb hts in_J16 hown hK (ro0 hΦ hS) 1 rfl rfl 0 (by decide) (hts _ q388) (fun x h9 => u_same (hts _ q389) x h9) rfl dJ12_checkForComodification_4 ?_
  refine lv_aload_n hx hb dJ12_checkForComodification_7 rfl (lv_at hl 0 rfl) ?_
  refine va_get (D := G.1) (ci := 11) (v := .int mm) (C := RJ12) (T := TJ12) (N := 4) hx hb hts in_J12 hown hK (ro0 hΦ hS) 0 rfl rfl 2 (by decide) (hts _ q430) (fun _ h9 => h9) rfl dJ12_checkForComodification_8 ?_
  refine lv_icmp_eq (tgt := 22) hx hb dJ12_checkForComodification_11 (by decide) (fun c11 => ?_) (fun c11 => ?_)
  · rw [hQ]
    exact r_v (u := ()) hx hb hr (trivial) hSep hS (by first | exact Nat.le_of_ble_eq_true rfl | omega | (dsimp only; omega)) (by first | exact Nat.le_of_ble_eq_true rfl | omega | (dsimp only; omega)) dJ12_checkForComodification_22 hlocks
  · exfalso; exact c11 rfl

set_option maxHeartbeats 600000 in
set_option maxRecDepth 100000 in
theorem m_J12_next (l : Launch) (G : EVT) (F : Nat → Prop) (sz : Nat) (it : Nat) (k1 : Nat) (lr : Int32) (q1 : Nat) (mm : Int32) (xs : List Nat) (hk : k1 < xs.length) : Met l yJ12_next (ws_ yJ12_next cJ12_next 3 (some (.object "java/lang/Object"))) ({ frames := 1, cells := 0, slots := 0, locals := 20 } : Room) (SPc G F sz [.ref it] [pts it (.inr (11, [.int (nI k1), .int lr, .int mm, .ref q1])), listA G q1 (mm) (xs)] (fun _ => True)) (SQq G F sz (fun (r : Option Nat) (u : Unit) => r = some (xs.getD k1 0)) (fun (u : Unit) => [pts it (.inr (11, [.int (nI (k1 + 1)), .int (nI k1), .int mm, .ref q1])), listA G q1 (mm) (xs)])) (0) (0) (Fz F sz) := by
  refine sp_of RJ12 (by decide) rfl (Nat.le_of_ble_eq_true rfl) ?_
  intro p e s m args below meth c ls QQ hx hb hr hts hown hlocks hml hnm hsz hSep hΦ hE hS hl hQ
  subst hsz
  have hK := hE.1
  have hl : lv_has ls 3 [(0, .ref it)] := hl
  rcases list_cs hSep (Pr := [pts it (.inr (11, [.int (nI k1), .int lr, .int mm, .ref q1]))]) (k := 1) rfl [0] rfl rfl (by decide) with ⟨rfl, hSep2⟩ | ⟨b, f, ⟨hx1, hx2⟩, hSep2⟩
  · have hSep := hSep2
    exact absurd hk (Nat.not_lt_zero _)
  · have hSep := hSep2
    have hSep : Sep G.1 clA (Fz F s.heap.size) [pts it (.inr (11, [.int (nI k1), .int lr, .int mm, .ref q1])), pts q1 (.inr (10, [.int mm, .ref b, .int (nI xs.length)])), pts b (.inl (G.2.1 4, 10, .inr (.inr (.inr (.inr f)))))] s.heap := hSep
    refine lv_aload_n hx hb dJ12_next_0 rfl (lv_at hl 0 rfl) ?_
    have hFk_1 : ∀ q, Fz (fun _ => False) s.heap.size q → (Fz F s.heap.size) q := fun q h => by rcases h with h | h; exact h.elim; exact Fz.new (Nat.le_trans hS.1 h)
    have hPk_1 : Sep G.1 clA (Fz (fun _ => False) s.heap.size) [] s.heap := sp_nil
    have hJk_1 := sp_nilJ (F := (fun _ => False)) hSep (fun _ => id) hFk_1
    refine c_v (va_runV (As := []) (rest := []) ⟨hx, hb, hml, hown, hts⟩ (m_J12_checkForComodification l G s.heap.size it k1 lr q1 mm b xs.length ) (cwV 0 hts (lw_V q460 q461 q462 q56 q463) rfl rfl rfl (by decide +kernel) ⟨Nat.le_of_ble_eq_true rfl, Nat.le_of_ble_eq_true rfl⟩) (sp_preV hE hS hFk_1 hPk_1 (va_P.app (hSep.cel (k := 0) rfl) (hSep.cel (k := 1) rfl)) (sp_recv (ci := 11) hK (hSep.cel (k := 0) rfl) rfl)) rfl rfl hl.1 rfl (lv_room (Nat.le_of_ble_eq_true rfl)) dJ12_next_1 ⟨by first | exact Nat.le_of_ble_eq_true rfl | omega | (dsimp only; omega), by first | exact Nat.le_of_ble_eq_true rfl | omega | (dsimp only; omega)⟩) hS hFk_1 hJk_1 (fun u_3 H locs hpk_1 hSep hS hzk_1 => ?_)
    refine W.cs (cells' := 0) (slots' := 0) rfl rfl ?_
    have hSep : Sep G.1 clA (Fz F s.heap.size) [pts it (.inr (11, [.int (nI k1), .int lr, .int mm, .ref q1])), pts q1 (.inr (10, [.int mm, .ref b, .int (nI xs.length)])), pts b (.inl (G.2.1 4, 10, .inr (.inr (.inr (.inr f)))))] H := hSep
    refine lv_aload_n hx hb dJ12_next_4 rfl (lv_at hl 0 rfl) ?_
    refine va_get (D := G.1) (ci := 11) (v := .int (nI k1)) (C := RJ12) (T := TJ12) (N := 4) hx hb hts in_J12 hown hK (hSep.cel (k := 0) rfl) 0 rfl rfl 0 (by decide) (hts _ q428) (fun _ h9 => h9) rfl dJ12_next_5 ?_
    refine lv_istore_n (lv' := [(1, .int (nI k1)), (0, .ref it)]) hx hb dJ12_next_8 rfl hl (by decide) rfl (fun ls hl => ?_)
    refine lv_iload_n hx hb dJ12_next_9 rfl (lv_at hl 0 rfl) ?_
    refine lv_aload_n hx hb dJ12_next_10 rfl (lv_at hl 1 rfl) ?_
    refine va_get (D := G.1) (ci := 11) (v := .ref q1) (C := RJ12) (T := TJ12) (N := 4) hx hb hts in_J12 hown hK (hSep.cel (k := 0) rfl) 0 rfl rfl 3 (by decide) (hts _ q431) (fun _ h9 => h9) rfl dJ12_next_11 ?_
    refine va_getN (D := G.1) (ci := 10) (v := .int (nI xs.length)) (C := RJ16) (T := TJ16) (N := 3) hx hb hts in_J16 hown hK (hSep.cel (k := 1) rfl) 0 rfl rfl 2 (by decide) (va_Nw.use rfl (hE.2.1 _ q385 rfl)) (fun _ h9 => h9) rfl dJ12_next_14 ?_
    refine n_icmp_lt (tgt := 28) hx hb (by omega) (by omega) dJ12_next_17 (by decide) (fun c17 => ?_) (fun c17 => ?_)
    · refine lv_aload_n hx hb dJ12_next_28 rfl (lv_at hl 1 rfl) ?_
      refine va_get (D := G.1) (ci := 11) (v := .ref q1) (C := RJ12) (T := TJ12) (N := 4) hx hb hts in_J12 hown hK (hSep.cel (k := 0) rfl) 0 rfl rfl 3 (by decide) (hts _ q431) (fun _ h9 => h9) rfl dJ12_next_29 ?_
      refine va_get (D := G.1) (ci := 10) (v := .ref b) (C := RJ16) (T := TJ16) (N := 3) hx hb hts in_J16 hown hK (hSep.cel (k := 1) rfl) 0 rfl rfl 1 (by decide) (hts _ q384) (fun _ h9 => h9) rfl dJ12_next_32 ?_
      refine lv_astore_n (lv' := [(2, .ref b), (1, .int (nI k1)), (0, .ref it)]) hx hb dJ12_next_35 rfl hl (by decide) rfl (fun ls hl => ?_)
      refine lv_iload_n hx hb dJ12_next_36 rfl (lv_at hl 1 rfl) ?_
      refine lv_aload_n hx hb dJ12_next_37 rfl (lv_at hl 0 rfl) ?_
      refine va_alen (v := nI 10) hx hb hK (hSep.cel (k := 2) rfl) 0 4 rfl rfl rfl dJ12_next_38 ?_
      refine n_icmp_lt (tgt := 50) hx hb (by omega) (by omega) dJ12_next_39 (by decide) (fun c39 => ?_) (fun c39 => ?_)
      · refine lv_aload_n hx hb dJ12_next_50 rfl (lv_at hl 2 rfl) ?_
        refine lv_iload_n hx hb dJ12_next_51 rfl (lv_at hl 1 rfl) ?_
        refine lv_iconst (v := (nI 1)) hx hb dJ12_next_52 (by decide) ?_
        refine n_iadd hx hb dJ12_next_53 ?_
        refine s_put (ci := 11) (v := .int (nI (k1 + 1))) (ty := .int) (C := RJ12) (T := TJ12) (N := 4) hx hb hts in_J12 tyJ12 tyJ12_ok nmJ12 hown hK hSep hS 0 rfl rfl 0 (by decide) (hts _ q428) (fun _ h9 => h9) rfl (by decide +kernel) rfl rfl (Nat.le_of_ble_eq_true rfl) dJ12_next_54 (fun H locs hSep hS => ?_)
        have hSep : Sep G.1 clA (Fz F s.heap.size) [pts it (.inr (11, [.int (nI (k1 + 1)), .int lr, .int mm, .ref q1])), pts q1 (.inr (10, [.int mm, .ref b, .int (nI xs.length)])), pts b (.inl (G.2.1 4, 10, .inr (.inr (.inr (.inr f)))))] H := hSep
        refine lv_aload_n hx hb dJ12_next_57 rfl (lv_at hl 0 rfl) ?_
        refine lv_aload_n hx hb dJ12_next_58 rfl (lv_at hl 2 rfl) ?_
        refine lv_iload_n hx hb dJ12_next_59 rfl (lv_at hl 1 rfl) ?_
        refine lv_dup_x1 hx hb dJ12_next_60 rfl rfl ?_
        refine s_put (ci := 11) (v := .int (nI k1)) (ty := .int) (C := RJ12) (T := TJ12) (N := 4) hx hb hts in_J12 tyJ12 tyJ12_ok nmJ12 hown hK hSep hS 0 rfl rfl 1 (by decide) (hts _ q429) (fun _ h9 => h9) rfl (by decide +kernel) rfl rfl (Nat.le_of_ble_eq_true rfl) dJ12_next_61 (fun H locs hSep hS => ?_)
        have hSep : Sep G.1 clA (Fz F s.heap.size) [pts it (.inr (11, [.int (nI (k1 + 1)), .int (nI k1), .int mm, .ref q1])), pts q1 (.inr (10, [.int mm, .ref b, .int (nI xs.length)])), pts b (.inl (G.2.1 4, 10, .inr (.inr (.inr (.inr f)))))] H := hSep
        refine n_aald (i := k1) hx hb hK (hSep.cel (k := 2) rfl) 4 rfl (by omega) (by omega) dJ12_next_64 ?_
        refine n_eqv (y := va_rf (some (xs.getD k1 0))) (congrArg va_rf (hx2 k1 hk)) ?_
        rw [hQ]
        exact r_q (r := some (xs.getD k1 0)) (u := ()) hx hb hr (Or.inl ⟨_, rfl⟩) (rfl) (hSep.close (P := listA G q1 mm xs) (Pc := [pts q1 (.inr (10, [.int mm, .ref b, .int (nI xs.length)])), pts b (.inl (G.2.1 4, 10, .inr (.inr (.inr (.inr f)))))]) (Pr := [pts it (.inr (11, [.int (nI (k1 + 1)), .int (nI k1), .int mm, .ref q1]))]) [1, 2] [0] rfl rfl rfl rfl (by decide) (fun w hw => list_b rfl hx1 hx2 hw)) hS (by first | exact Nat.le_of_ble_eq_true rfl | omega | (dsimp only; omega)) (by first | exact Nat.le_of_ble_eq_true rfl | omega | (dsimp only; omega)) dJ12_next_65 hlocks
      · exfalso; omega
    · exfalso; omega
