set_option maxRecDepth 100000
set_option maxHeartbeats 600000 in
set_option maxRecDepth 100000 in
theorem m_J0_init (l : Launch) (G : EVT) (sz : Nat) (q1 : Nat)  : Met l yJ0_init (ws_ yJ0_init cJ0_init 1 none) ({ frames := 1, cells := 0, slots := 0, locals := 34 } : Room) (SPc G (fun _ => False) sz [.ref q1] [] (fun _ => True)) (SQv G (fun _ => False) sz (fun (u : Unit) => True) (fun (u : Unit) => [])) (0) (0) (Fz (fun _ => False) sz) := by
  refine sp_of RJ0 (by decide) rfl (Nat.le_of_ble_eq_true rfl) ?_
  intro p e s m args below meth c ls QQ hx hb hr hts hown hlocks hml hnm hsz hSep hΦ hE hS hl hQ
  subst hsz
  have hK := hE.1
  have hl : lv_has ls 1 [(0, .ref q1)] := hl
  refine lv_aload_n hx hb dJ0_init_0 rfl (lv_at hl 0 rfl) ?_
  refine W.objInit hx hb hown (hts _ q107) (hts _ q81) (hts _ q82) rfl (by rw [hml]; exact hl.1) rfl dJ0_init_1 (Nat.le_of_ble_eq_true rfl) (Nat.le_of_ble_eq_true rfl) ?_
  refine W.eq (g2 := F0 m 4 ls []) rfl ?_
  rw [hQ]
  exact r_v (u := ()) hx hb hr (trivial) hSep hS (by first | exact Nat.le_of_ble_eq_true rfl | omega | (dsimp only; omega)) (by first | exact Nat.le_of_ble_eq_true rfl | omega | (dsimp only; omega)) dJ0_init_4 hlocks

set_option maxHeartbeats 600000 in
set_option maxRecDepth 100000 in
theorem m_J15_init (l : Launch) (G : EVT) (F : Nat → Prop) (sz : Nat) (q1 : Nat)  : Met l yJ15_init (ws_ yJ15_init cJ15_init 1 none) ({ frames := 2, cells := 0, slots := 0, locals := 54 } : Room) (SPc G F sz [.ref q1] [pts q1 (.inr (10, [.int (nI 0), .null, .int (nI 0)]))] (fun _ => True)) (SQv G F sz (fun (u : Unit) => True) (fun (u : Unit) => [pts q1 (.inr (10, [.int (nI 0), .null, .int (nI 0)]))])) (0) (0) (Fz F sz) := by
  refine sp_of RJ15 (by decide) rfl (Nat.le_of_ble_eq_true rfl) ?_
  intro p e s m args below meth c ls QQ hx hb hr hts hown hlocks hml hnm hsz hSep hΦ hE hS hl hQ
  subst hsz
  have hK := hE.1
  have hl : lv_has ls 1 [(0, .ref q1)] := hl
  refine lv_aload_n hx hb dJ15_init_0 rfl (lv_at hl 0 rfl) ?_
  have hFk_1 : ∀ q, Fz (fun _ => False) s.heap.size q → (Fz F s.heap.size) q := fun q h => by rcases h with h | h; exact h.elim; exact Fz.new (Nat.le_trans hS.1 h)
  have hPk_1 : Sep G.1 clA (Fz (fun _ => False) s.heap.size) [] s.heap := sp_nil
  have hJk_1 := sp_nilJ (F := (fun _ => False)) hSep (fun _ => id) hFk_1
  refine c_v (va_runI (As := []) (rest := []) ⟨hx, hb, hml, hown, hts⟩ (m_J0_init l G s.heap.size q1 ) (cwI 0 hts (lw_meth q106) rfl rfl rfl (hts _ q41) (hts _ q380) (hts _ q105) rfl (by decide +kernel) ⟨Nat.le_of_ble_eq_true rfl, Nat.le_of_ble_eq_true rfl⟩) (sp_preS hE hS hFk_1 hPk_1 trivial) rfl rfl hl.1 rfl (lv_room (Nat.le_of_ble_eq_true rfl)) dJ15_init_1 ⟨by first | exact Nat.le_of_ble_eq_true rfl | omega | (dsimp only; omega), by first | exact Nat.le_of_ble_eq_true rfl | omega | (dsimp only; omega)⟩) hS hFk_1 hJk_1 (fun u_3 H locs hpk_1 hSep hS hzk_1 => ?_)
  refine W.cs (cells' := 0) (slots' := 0) rfl rfl ?_
  have hSep : Sep G.1 clA (Fz F s.heap.size) [pts q1 (.inr (10, [.int (nI 0), .null, .int (nI 0)]))] H := hSep
  refine lv_aload_n hx hb dJ15_init_4 rfl (lv_at hl 0 rfl) ?_
  refine lv_iconst (v := (nI 0)) hx hb dJ15_init_5 (by decide) ?_
  refine s_put (ci := 10) (v := .int (nI 0)) (ty := .int) (C := RJ16) (T := TJ16) (N := 3) hx hb hts in_J16 tyJ16 tyJ16_ok nmJ16 hown hK hSep hS 0 rfl rfl 0 (by decide) (hts _ q387) (fun _ h9 => h9) rfl (by decide +kernel) rfl rfl (Nat.le_of_ble_eq_true rfl) dJ15_init_6 (fun H locs hSep hS => ?_)
  have hSep : Sep G.1 clA (Fz F s.heap.size) [pts q1 (.inr (10, [.int (nI 0), .null, .int (nI 0)]))] H := hSep
  rw [hQ]
  exact r_v (u := ()) hx hb hr (trivial) hSep hS (by first | exact Nat.le_of_ble_eq_true rfl | omega | (dsimp only; omega)) (by first | exact Nat.le_of_ble_eq_true rfl | omega | (dsimp only; omega)) dJ15_init_9 hlocks

set_option maxHeartbeats 600000 in
set_option maxRecDepth 100000 in
theorem m_J16_init (l : Launch) (G : EVT) (F : Nat → Prop) (sz : Nat) (q1 : Nat)  : Met l yJ16_init (ws_ yJ16_init cJ16_init 1 none) ({ frames := 3, cells := 0, slots := 0, locals := 74 } : Room) (SPc G F sz [.ref q1] [pts q1 (.inr (10, [.int (nI 0), .null, .int (nI 0)]))] (fun _ => True)) (SQv G F sz (fun (u : Unit) => True) (fun (u : Unit) => [listA G q1 (nI 0) ([])])) (0) (0) (Fz F sz) := by
  refine sp_of RJ16 (by decide) rfl (Nat.le_of_ble_eq_true rfl) ?_
  intro p e s m args below meth c ls QQ hx hb hr hts hown hlocks hml hnm hsz hSep hΦ hE hS hl hQ
  subst hsz
  have hK := hE.1
  have hl : lv_has ls 1 [(0, .ref q1)] := hl
  refine lv_aload_n hx hb dJ16_init_0 rfl (lv_at hl 0 rfl) ?_
  obtain ⟨Fk_1, hFk_1, hPk_1, hJk_1⟩ := hSep.cut (Pc := [pts q1 (.inr (10, [.int (nI 0), .null, .int (nI 0)]))]) (Pr := []) (fun q h => Fz.new (Nat.le_trans hS.1 h)) [0] [] rfl rfl rfl rfl (by decide)
  refine c_v (va_runI (As := []) (rest := []) ⟨hx, hb, hml, hown, hts⟩ (m_J15_init l G Fk_1 s.heap.size q1 ) (cwI 0 hts (lw_meth q379) rfl rfl rfl (hts _ q62) (hts _ q377) (hts _ q378) rfl (by decide +kernel) ⟨Nat.le_of_ble_eq_true rfl, Nat.le_of_ble_eq_true rfl⟩) (sp_preS hE hS hFk_1 hPk_1 trivial) rfl rfl hl.1 rfl (lv_room (Nat.le_of_ble_eq_true rfl)) dJ16_init_1 ⟨by first | exact Nat.le_of_ble_eq_true rfl | omega | (dsimp only; omega), by first | exact Nat.le_of_ble_eq_true rfl | omega | (dsimp only; omega)⟩) hS hFk_1 hJk_1 (fun u_3 H locs hpk_1 hSep hS hzk_1 => ?_)
  refine W.cs (cells' := 0) (slots' := 0) rfl rfl ?_
  have hSep : Sep G.1 clA (Fz F s.heap.size) [pts q1 (.inr (10, [.int (nI 0), .null, .int (nI 0)]))] H := hSep
  refine lv_aload_n hx hb dJ16_init_4 rfl (lv_at hl 0 rfl) ?_
  refine va_gets hx hb hE.2.2.2.1 hS hown (hts _ q381) (fun _ h9 => h9) dJ16_init_5 ?_
  refine s_put (ci := 10) (v := .ref G.2.2.2.1) (ty := .array (.object "java/lang/Object")) (C := RJ16) (T := TJ16) (N := 3) hx hb hts in_J16 tyJ16 tyJ16_ok nmJ16 hown hK hSep hS 0 rfl rfl 1 (by decide) (hts _ q383) (fun _ h9 => h9) rfl (by decide +kernel) rfl rfl (Nat.le_of_ble_eq_true rfl) dJ16_init_8 (fun H locs hSep hS => ?_)
  have hSep : Sep G.1 clA (Fz F s.heap.size) [pts q1 (.inr (10, [.int (nI 0), .ref G.2.2.2.1, .int (nI 0)]))] H := hSep
  rw [hQ]
  exact r_v (u := ()) hx hb hr (trivial) (hSep.close (P := listA G q1 (nI 0) []) (Pc := [pts q1 (.inr (10, [.int (nI 0), .ref G.2.2.2.1, .int (nI 0)]))]) (Pr := []) [0] [] rfl rfl rfl rfl (by decide) (fun w hw => list_a hw)) hS (by first | exact Nat.le_of_ble_eq_true rfl | omega | (dsimp only; omega)) (by first | exact Nat.le_of_ble_eq_true rfl | omega | (dsimp only; omega)) dJ16_init_11 hlocks

set_option maxHeartbeats 600000 in
set_option maxRecDepth 100000 in
theorem m_J8_checkIndex (l : Launch) (G : EVT) (sz : Nat) (i1 : Nat) (n1 : Nat) (hi : i1 < n1) (hn : n1 < 2147483648) : Met l yJ8_checkIndex (ws_ yJ8_checkIndex cJ8_checkIndex 3 (some .int)) ({ frames := 0, cells := 0, slots := 0, locals := 0 } : Room) (SPc G (fun _ => False) sz [.int (nI i1), .int (nI n1), .null] [] (fun _ => True)) (SQi G (fun _ => False) sz (fun (r : Int32) (u : Unit) => r = (nI i1)) (fun (u : Unit) => [])) (0) (0) (Fz (fun _ => False) sz) := by
  refine sp_of RJ8 (by decide) rfl (Nat.le_of_ble_eq_true rfl) ?_
  intro p e s m args below meth c ls QQ hx hb hr hts hown hlocks hml hnm hsz hSep hΦ hE hS hl hQ
  subst hsz
  have hK := hE.1
  have hl : lv_has ls 3 [(0, .int (nI i1)), (1, .int (nI n1)), (2, .null)] := hl
  refine lv_iload_n hx hb dJ8_checkIndex_0 rfl (lv_at hl 0 rfl) ?_
  refine n_if_lt (tgt := 9) hx hb (by omega) dJ8_checkIndex_1 (by decide) ?_
  refine lv_iload_n hx hb dJ8_checkIndex_4 rfl (lv_at hl 0 rfl) ?_
  refine lv_iload_n hx hb dJ8_checkIndex_5 rfl (lv_at hl 1 rfl) ?_
  refine n_icmp_lt (tgt := 16) hx hb (by omega) (by omega) dJ8_checkIndex_6 (by decide) (fun c6 => ?_) (fun c6 => ?_)
  · refine lv_iload_n hx hb dJ8_checkIndex_16 rfl (lv_at hl 0 rfl) ?_
    rw [hQ]
    exact r_i (r := (nI i1)) (u := ()) hx hb hr (rfl) hSep hS (by first | exact Nat.le_of_ble_eq_true rfl | omega | (dsimp only; omega)) (by first | exact Nat.le_of_ble_eq_true rfl | omega | (dsimp only; omega)) dJ8_checkIndex_17 hlocks
  · exfalso; omega

set_option maxHeartbeats 600000 in
set_option maxRecDepth 100000 in
theorem m_J7_checkIndex (l : Launch) (G : EVT) (sz : Nat) (i1 : Nat) (n1 : Nat) (hi : i1 < n1) (hn : n1 < 2147483648) : Met l yJ7_checkIndex (ws_ yJ7_checkIndex cJ7_checkIndex 2 (some .int)) ({ frames := 1, cells := 0, slots := 0, locals := 22 } : Room) (SPc G (fun _ => False) sz [.int (nI i1), .int (nI n1)] [] (fun _ => True)) (SQi G (fun _ => False) sz (fun (r : Int32) (u : Unit) => r = (nI i1)) (fun (u : Unit) => [])) (0) (0) (Fz (fun _ => False) sz) := by
  refine sp_of RJ7 (by decide) rfl (Nat.le_of_ble_eq_true rfl) ?_
  intro p e s m args below meth c ls QQ hx hb hr hts hown hlocks hml hnm hsz hSep hΦ hE hS hl hQ
  subst hsz
  have hK := hE.1
  have hl : lv_has ls 2 [(0, .int (nI i1)), (1, .int (nI n1))] := hl
  refine lv_iload_n hx hb dJ7_checkIndex_0 rfl (lv_at hl 0 rfl) ?_
  refine lv_iload_n hx hb dJ7_checkIndex_1 rfl (lv_at hl 1 rfl) ?_
  refine lv_null hx hb dJ7_checkIndex_2 ?_
  have hFk_1 : ∀ q, Fz (fun _ => False) s.heap.size q → (Fz (fun _ => False) s.heap.size) q := fun q h => by rcases h with h | h; exact h.elim; exact Fz.new (Nat.le_trans hS.1 h)
  have hPk_1 : Sep G.1 clA (Fz (fun _ => False) s.heap.size) [] s.heap := sp_nil
  have hJk_1 := sp_nilJ (F := (fun _ => False)) hSep (fun _ => id) hFk_1
  refine c_i (va_runS (As := [.int (nI i1), .int (nI n1), .null]) (rest := []) ⟨hx, hb, hml, hown, hts⟩ (m_J8_checkIndex l G s.heap.size i1 n1 (by first | assumption | omega) (by first | assumption | omega)) (va_cwS 3 hts (lw_S q575 q576 q52 q577) rfl rfl rfl (by decide +kernel) ⟨Nat.le_of_ble_eq_true rfl, Nat.le_of_ble_eq_true rfl⟩) (sp_preS hE hS hFk_1 hPk_1 trivial) rfl rfl hl.1 rfl (lv_room (Nat.le_of_ble_eq_true rfl)) dJ7_checkIndex_3 ⟨by first | exact Nat.le_of_ble_eq_true rfl | omega | (dsimp only; omega), by first | exact Nat.le_of_ble_eq_true rfl | omega | (dsimp only; omega)⟩) hS hFk_1 hJk_1 (fun r_2 u_3 H locs hpk_1 hSep hS hzk_1 => ?_)
  obtain rfl : r_2 = (nI i1) := hpk_1
  refine W.cs (cells' := 0) (slots' := 0) rfl rfl ?_
  have hSep : Sep G.1 clA (Fz (fun _ => False) s.heap.size) [] H := hSep
  rw [hQ]
  exact r_i (r := (nI i1)) (u := ()) hx hb hr (rfl) hSep hS (by first | exact Nat.le_of_ble_eq_true rfl | omega | (dsimp only; omega)) (by first | exact Nat.le_of_ble_eq_true rfl | omega | (dsimp only; omega)) dJ7_checkIndex_6 hlocks

set_option maxHeartbeats 600000 in
set_option maxRecDepth 100000 in
theorem m_J16_grow_2 (l : Launch) (G : EVT) (F : Nat → Prop) (sz : Nat) (q1 : Nat) (mm : Int32) (k1 : Nat) (hk : k1 ≤ 10) : Met l yJ16_grow_2 (ws_ yJ16_grow_2 cJ16_grow_2 4 (some (.array (.object "java/lang/Object")))) ({ frames := 2, cells := 1, slots := 10, locals := 40 } : Room) (SPc G F sz [.ref q1, .int (nI k1)] [pts q1 (.inr (10, [.int mm, .ref G.2.2.2.1, .int (nI 0)]))] (fun _ => True)) (SQr G F sz (fun (u : Unit) => True) (fun (u : Unit) (ra : Nat) => [pts q1 (.inr (10, [.int mm, .ref ra, .int (nI 0)])), pts ra (.inl (G.2.1 4, 10, .inr (.inr (.inr (.inr (fun _ => none))))))])) (1) (10) (Fz F sz) := by
  refine sp_of RJ16 (by decide) rfl (Nat.le_of_ble_eq_true rfl) ?_
  intro p e s m args below meth c ls QQ hx hb hr hts hown hlocks hml hnm hsz hSep hΦ hE hS hl hQ
  subst hsz
  have hK := hE.1
  have hl : lv_has ls 4 [(0, .ref q1), (1, .int (nI k1))] := hl
  refine lv_aload_n hx hb dJ16_grow_2_0 rfl (lv_at hl 0 rfl) ?_
  refine va_get (D := G.1) (ci := 10) (v := .ref G.2.2.2.1) (C := RJ16) (T := TJ16) (N := 3) hx hb hts in_J16 hown hK (hSep.cel (k := 0) rfl) 0 rfl rfl 1 (by decide) (hts _ q383) (fun _ h9 => h9) rfl dJ16_grow_2_1 ?_
  refine va_tlen (v := nI 0) hx hb hE.2.2.2.2.1 hS rfl dJ16_grow_2_4 ?_
  refine lv_istore_n (lv' := [(2, .int (nI 0)), (0, .ref q1), (1, .int (nI k1))]) hx hb dJ16_grow_2_5 rfl hl (by decide) rfl (fun ls hl => ?_)
  refine lv_iload_n hx hb dJ16_grow_2_6 rfl (lv_at hl 0 rfl) ?_
  refine n_if_gt (tgt := 20) hx hb (by omega) dJ16_grow_2_7 (by decide) (fun c7 => ?_) (fun c7 => ?_)
  · exfalso; exact absurd c7 (by decide)
  · refine lv_aload_n hx hb dJ16_grow_2_10 rfl (lv_at hl 1 rfl) ?_
    refine va_get (D := G.1) (ci := 10) (v := .ref G.2.2.2.1) (C := RJ16) (T := TJ16) (N := 3) hx hb hts in_J16 hown hK (hSep.cel (k := 0) rfl) 0 rfl rfl 1 (by decide) (hts _ q383) (fun _ h9 => h9) rfl dJ16_grow_2_11 ?_
    refine va_gets hx hb hE.2.2.2.1 hS hown (hts _ q381) (fun _ h9 => h9) dJ16_grow_2_14 ?_
    refine lv_acmp_eq (rx := some G.2.2.2.1) (ry := some G.2.2.2.1) (tgt := 45) hx hb dJ16_grow_2_17 (by decide) (fun c17 => ?_) (fun c17 => ?_)
    · refine lv_aload_n hx hb dJ16_grow_2_45 rfl (lv_at hl 1 rfl) ?_
      refine lv_bipush (v := (nI 10)) hx hb dJ16_grow_2_46 (by decide) ?_
      refine lv_iload_n hx hb dJ16_grow_2_48 rfl (lv_at hl 2 rfl) ?_
      refine va_mmax hx hb (hml.trans hl.1.symm) hown (hts _ q497) (hts _ q490) (hts _ q58) (hts _ q491) (Nat.le_of_ble_eq_true rfl) (Nat.le_of_ble_eq_true rfl) (Nat.zero_le _) (Nat.zero_le _) dJ16_grow_2_49 ?_
      refine n_eq (y := (nI 10)) (if_neg (by rw [Int32.lt_iff_toInt_lt, nI_toInt (by decide), nI_toInt (by omega)]; omega)) ?_
      refine s_newq (C := "java/lang/Object") (n := 10) hx hb hown (hts _ q498) (hE.2.1 _ q109 rfl) hK hSep hS (fun q h => Fz.new h) 4 rfl (by omega) (by omega) (by first | exact Nat.le_of_ble_eq_true rfl | omega | (dsimp only; omega)) (by first | exact Nat.le_of_ble_eq_true rfl | omega | (dsimp only; omega)) dJ16_grow_2_52 (fun q_1 H hSep hS => ?_)
      have hSep : Sep G.1 clA (Fz F s.heap.size) [pts q1 (.inr (10, [.int mm, .ref G.2.2.2.1, .int (nI 0)])), pts q_1 (.inl (G.2.1 4, 10, .inr (.inr (.inr (.inr (fun _ => none))))))] H := hSep
      refine W.cs (cells' := 1) (slots' := 10) rfl rfl ?_
      refine lv_dup_x1 hx hb dJ16_grow_2_55 rfl rfl ?_
      refine s_put (ci := 10) (v := .ref q_1) (ty := .array (.object "java/lang/Object")) (C := RJ16) (T := TJ16) (N := 3) hx hb hts in_J16 tyJ16 tyJ16_ok nmJ16 hown hK hSep hS 0 rfl rfl 1 (by decide) (hts _ q383) (fun _ h9 => h9) rfl (by decide +kernel) rfl rfl (Nat.le_of_ble_eq_true rfl) dJ16_grow_2_56 (fun H locs hSep hS => ?_)
      have hSep : Sep G.1 clA (Fz F s.heap.size) [pts q1 (.inr (10, [.int mm, .ref q_1, .int (nI 0)])), pts q_1 (.inl (G.2.1 4, 10, .inr (.inr (.inr (.inr (fun _ => none))))))] H := hSep
      rw [hQ]
      exact r_r (r := q_1) (u := ()) hx hb hr (Or.inr ⟨_, rfl⟩) (trivial) hSep hS (by first | exact Nat.le_of_ble_eq_true rfl | omega | (dsimp only; omega)) (by first | exact Nat.le_of_ble_eq_true rfl | omega | (dsimp only; omega)) dJ16_grow_2_59 hlocks
    · exfalso; exact c17 rfl

set_option maxHeartbeats 600000 in
set_option maxRecDepth 100000 in
theorem m_J16_grow (l : Launch) (G : EVT) (F : Nat → Prop) (sz : Nat) (q1 : Nat) (mm : Int32)  : Met l yJ16_grow (ws_ yJ16_grow cJ16_grow 1 (some (.array (.object "java/lang/Object")))) ({ frames := 3, cells := 1, slots := 10, locals := 63 } : Room) (SPc G F sz [.ref q1] [pts q1 (.inr (10, [.int mm, .ref G.2.2.2.1, .int (nI 0)]))] (fun _ => True)) (SQr G F sz (fun (u : Unit) => True) (fun (u : Unit) (ra : Nat) => [pts q1 (.inr (10, [.int mm, .ref ra, .int (nI 0)])), pts ra (.inl (G.2.1 4, 10, .inr (.inr (.inr (.inr (fun _ => none))))))])) (1) (10) (Fz F sz) := by
  refine sp_of RJ16 (by decide) rfl (Nat.le_of_ble_eq_true rfl) ?_
  intro p e s m args below meth c ls QQ hx hb hr hts hown hlocks hml hnm hsz hSep hΦ hE hS hl hQ
  subst hsz
  have hK := hE.1
  have hl : lv_has ls 1 [(0, .ref q1)] := hl
  refine lv_aload_n hx hb dJ16_grow_0 rfl (lv_at hl 0 rfl) ?_
  refine lv_aload_n hx hb dJ16_grow_1 rfl (lv_at hl 0 rfl) ?_
  refine va_get (D := G.1) (ci := 10) (v := .int (nI 0)) (C := RJ16) (T := TJ16) (N := 3) hx hb hts in_J16 hown hK (hSep.cel (k := 0) rfl) 0 rfl rfl 2 (by decide) (hts _ q386) (fun _ h9 => h9) rfl dJ16_grow_2 ?_
  refine lv_iconst (v := (nI 1)) hx hb dJ16_grow_5 (by decide) ?_
  refine n_iadd hx hb dJ16_grow_6 ?_
  obtain ⟨Fk_1, hFk_1, hPk_1, hJk_1⟩ := hSep.cut (Pc := [pts q1 (.inr (10, [.int mm, .ref G.2.2.2.1, .int (nI 0)]))]) (Pr := []) (fun q h => Fz.new (Nat.le_trans hS.1 h)) [0] [] rfl rfl rfl rfl (by decide)
  refine c_r (va_runV (As := [.int (nI (0 + 1))]) (rest := []) ⟨hx, hb, hml, hown, hts⟩ (m_J16_grow_2 l G Fk_1 s.heap.size q1 mm (0 + 1) (by first | assumption | omega)) (cwV 1 hts (lw_V q482 q484 qs6 q63 q485) rfl rfl rfl (by decide +kernel) ⟨Nat.le_of_ble_eq_true rfl, Nat.le_of_ble_eq_true rfl⟩) (sp_preV hE hS hFk_1 hPk_1 trivial (sp_recv (ci := 10) hK (hSep.cel (k := 0) rfl) rfl)) rfl rfl hl.1 rfl (lv_room (Nat.le_of_ble_eq_true rfl)) dJ16_grow_7 ⟨by first | exact Nat.le_of_ble_eq_true rfl | omega | (dsimp only; omega), by first | exact Nat.le_of_ble_eq_true rfl | omega | (dsimp only; omega)⟩) hS hFk_1 hJk_1 (fun u_3 r_2 H locs hpk_1 hSep hS hzk_1 => ?_)
  refine W.cs (cells' := 1) (slots' := 10) rfl rfl ?_
  have hSep : Sep G.1 clA (Fz F s.heap.size) [pts q1 (.inr (10, [.int mm, .ref r_2, .int (nI 0)])), pts r_2 (.inl (G.2.1 4, 10, .inr (.inr (.inr (.inr (fun _ => none))))))] H := hSep
  rw [hQ]
  exact r_r (r := r_2) (u := ()) hx hb hr (Or.inr ⟨_, rfl⟩) (trivial) hSep hS (by first | exact Nat.le_of_ble_eq_true rfl | omega | (dsimp only; omega)) (by first | exact Nat.le_of_ble_eq_true rfl | omega | (dsimp only; omega)) dJ16_grow_10 hlocks

set_option maxHeartbeats 600000 in
set_option maxRecDepth 100000 in
theorem m_J16_add_2a (l : Launch) (G : EVT) (F : Nat → Prop) (sz : Nat) (q1 : Nat) (mm : Int32) (e1 : Nat) (R : Asn) (Ce : String) (hR : ∀ H, Hol G.1 clA R H → elR G Ce e1 H) : Met l yJ16_add_2 (ws_ yJ16_add_2 cJ16_add_2 4 none) ({ frames := 4, cells := 1, slots := 10, locals := 83 } : Room) (SPc G F sz [.ref q1, .ref e1, .ref G.2.2.2.1, .int (nI 0)] [pts q1 (.inr (10, [.int mm, .ref G.2.2.2.1, .int (nI 0)])), R] (fun _ => True)) (SQv G F sz (fun (u : Nat) => True) (fun (u : Nat) => [pts q1 (.inr (10, [.int mm, .ref u, .int (nI 1)])), pts u (.inl (G.2.1 4, 10, .inr (.inr (.inr (.inr (va_up (fun _ => none) 0 (some e1))))))), R])) (1) (10) (Fz F sz) := by
  refine sp_of RJ16 (by decide) rfl (Nat.le_of_ble_eq_true rfl) ?_
  intro p e s m args below meth c ls QQ hx hb hr hts hown hlocks hml hnm hsz hSep hΦ hE hS hl hQ
  subst hsz
  have hK := hE.1
  have hl : lv_has ls 4 [(0, .ref q1), (1, .ref e1), (2, .ref G.2.2.2.1), (3, .int (nI 0))] := hl
  refine lv_iload_n hx hb dJ16_add_2_0 rfl (lv_at hl 3 rfl) ?_
  refine lv_aload_n hx hb dJ16_add_2_1 rfl (lv_at hl 2 rfl) ?_
  refine va_tlen (v := nI 0) hx hb hE.2.2.2.2.1 hS rfl dJ16_add_2_2 ?_
  refine n_icmp_ne (tgt := 11) hx hb (by omega) (by omega) dJ16_add_2_3 (by decide) (fun c3 => ?_) (fun c3 => ?_)
  · exfalso; omega
  · refine lv_aload_n hx hb dJ16_add_2_6 rfl (lv_at hl 0 rfl) ?_
    obtain ⟨Fk_1, hFk_1, hPk_1, hJk_1⟩ := hSep.cut (Pc := [pts q1 (.inr (10, [.int mm, .ref G.2.2.2.1, .int (nI 0)]))]) (Pr := [R]) (fun q h => Fz.new (Nat.le_trans hS.1 h)) [0] [1] rfl rfl rfl rfl (by decide)
    refine c_r (va_runV (As := []) (rest := []) ⟨hx, hb, hml, hown, hts⟩ (m_J16_grow l G Fk_1 s.heap.size q1 mm ) (cwV 0 hts (lw_V q478 q480 qs5 q63 q481) rfl rfl rfl (by decide +kernel) ⟨Nat.le_of_ble_eq_true rfl, Nat.le_of_ble_eq_true rfl⟩) (sp_preV hE hS hFk_1 hPk_1 trivial (sp_recv (ci := 10) hK (hSep.cel (k := 0) rfl) rfl)) rfl rfl hl.1 rfl (lv_room (Nat.le_of_ble_eq_true rfl)) dJ16_add_2_7 ⟨by first | exact Nat.le_of_ble_eq_true rfl | omega | (dsimp only; omega), by first | exact Nat.le_of_ble_eq_true rfl | omega | (dsimp only; omega)⟩) hS hFk_1 hJk_1 (fun u_3 r_2 H locs hpk_1 hSep hS hzk_1 => ?_)
    refine W.cs (cells' := 1) (slots' := 10) rfl rfl ?_
    have hSep : Sep G.1 clA (Fz F s.heap.size) [R, pts q1 (.inr (10, [.int mm, .ref r_2, .int (nI 0)])), pts r_2 (.inl (G.2.1 4, 10, .inr (.inr (.inr (.inr (fun _ => none))))))] H := hSep
    refine lv_astore_n (lv' := [(2, .ref r_2), (0, .ref q1), (1, .ref e1), (3, .int (nI 0))]) hx hb dJ16_add_2_10 rfl hl (by decide) rfl (fun ls hl => ?_)
    refine lv_aload_n hx hb dJ16_add_2_11 rfl (lv_at hl 0 rfl) ?_
    refine lv_iload_n hx hb dJ16_add_2_12 rfl (lv_at hl 3 rfl) ?_
    refine lv_aload_n hx hb dJ16_add_2_13 rfl (lv_at hl 2 rfl) ?_
    have hel := hR _ (hSep.hol (k := 0) rfl)
    refine n_aast (i := 0) hx hb hK hSep hS 2 rfl 4 rfl (el_cell hE hS hel) (el_asg hE hel) (by omega) (by omega) dJ16_add_2_14 (fun H locs hSep hS => ?_)
    have hSep : Sep G.1 clA (Fz F s.heap.size) [R, pts q1 (.inr (10, [.int mm, .ref r_2, .int (nI 0)])), pts r_2 (.inl (G.2.1 4, 10, .inr (.inr (.inr (.inr (va_up (fun _ => none) 0 (some e1)))))))] H := hSep
    refine lv_aload_n hx hb dJ16_add_2_15 rfl (lv_at hl 1 rfl) ?_
    refine lv_iload_n hx hb dJ16_add_2_16 rfl (lv_at hl 3 rfl) ?_
    refine lv_iconst (v := (nI 1)) hx hb dJ16_add_2_17 (by decide) ?_
    refine n_iadd hx hb dJ16_add_2_18 ?_
    refine s_put (ci := 10) (v := .int (nI (0 + 1))) (ty := .int) (C := RJ16) (T := TJ16) (N := 3) hx hb hts in_J16 tyJ16 tyJ16_ok nmJ16 hown hK hSep hS 1 rfl rfl 2 (by decide) (hts _ q386) (fun _ h9 => h9) rfl (by decide +kernel) rfl rfl (Nat.le_of_ble_eq_true rfl) dJ16_add_2_19 (fun H locs hSep hS => ?_)
    have hSep : Sep G.1 clA (Fz F s.heap.size) [R, pts q1 (.inr (10, [.int mm, .ref r_2, .int (nI (0 + 1))])), pts r_2 (.inl (G.2.1 4, 10, .inr (.inr (.inr (.inr (va_up (fun _ => none) 0 (some e1)))))))] H := hSep
    rw [hQ]
    exact r_v (u := r_2) hx hb hr (trivial) (hSep.pick [1, 2, 0] rfl rfl) hS (by first | exact Nat.le_of_ble_eq_true rfl | omega | (dsimp only; omega)) (by first | exact Nat.le_of_ble_eq_true rfl | omega | (dsimp only; omega)) dJ16_add_2_22 hlocks

set_option maxHeartbeats 600000 in
set_option maxRecDepth 100000 in
theorem m_J16_add_2b (l : Launch) (G : EVT) (F : Nat → Prop) (sz : Nat) (q1 : Nat) (mm : Int32) (e1 : Nat) (R : Asn) (Ce : String) (b : Nat) (f : Nat → Option Nat) (n1 : Nat) (hR : ∀ H, Hol G.1 clA R H → elR G Ce e1 H) (hn : n1 < 10) : Met l yJ16_add_2 (ws_ yJ16_add_2 cJ16_add_2 4 none) ({ frames := 0, cells := 0, slots := 0, locals := 0 } : Room) (SPc G F sz [.ref q1, .ref e1, .ref b, .int (nI n1)] [pts q1 (.inr (10, [.int mm, .ref b, .int (nI n1)])), pts b (.inl (G.2.1 4, 10, .inr (.inr (.inr (.inr f))))), R] (fun _ => True)) (SQv G F sz (fun (u : Unit) => True) (fun (u : Unit) => [pts q1 (.inr (10, [.int mm, .ref b, .int (nI (n1 + 1))])), pts b (.inl (G.2.1 4, 10, .inr (.inr (.inr (.inr (va_up f n1 (some e1))))))), R])) (0) (0) (Fz F sz) := by
  refine sp_of RJ16 (by decide) rfl (Nat.le_of_ble_eq_true rfl) ?_
  intro p e s m args below meth c ls QQ hx hb hr hts hown hlocks hml hnm hsz hSep hΦ hE hS hl hQ
  subst hsz
  have hK := hE.1
  have hl : lv_has ls 4 [(0, .ref q1), (1, .ref e1), (2, .ref b), (3, .int (nI n1))] := hl
  refine lv_iload_n hx hb dJ16_add_2_0 rfl (lv_at hl 3 rfl) ?_
  refine lv_aload_n hx hb dJ16_add_2_1 rfl (lv_at hl 2 rfl) ?_
  refine va_alen (v := nI 10) hx hb hK (hSep.cel (k := 1) rfl) 0 4 rfl rfl rfl dJ16_add_2_2 ?_
  refine n_icmp_ne (tgt := 11) hx hb (by omega) (by omega) dJ16_add_2_3 (by decide) (fun c3 => ?_) (fun c3 => ?_)
  · refine lv_aload_n hx hb dJ16_add_2_11 rfl (lv_at hl 2 rfl) ?_
    refine lv_iload_n hx hb dJ16_add_2_12 rfl (lv_at hl 3 rfl) ?_
    refine lv_aload_n hx hb dJ16_add_2_13 rfl (lv_at hl 1 rfl) ?_
    have hel := hR _ (hSep.hol (k := 2) rfl)
    refine n_aast (i := n1) hx hb hK hSep hS 1 rfl 4 rfl (el_cell hE hS hel) (el_asg hE hel) (by omega) (by omega) dJ16_add_2_14 (fun H locs hSep hS => ?_)
    have hSep : Sep G.1 clA (Fz F s.heap.size) [pts q1 (.inr (10, [.int mm, .ref b, .int (nI n1)])), pts b (.inl (G.2.1 4, 10, .inr (.inr (.inr (.inr (va_up f n1 (some e1))))))), R] H := hSep
    refine lv_aload_n hx hb dJ16_add_2_15 rfl (lv_at hl 0 rfl) ?_
    refine lv_iload_n hx hb dJ16_add_2_16 rfl (lv_at hl 3 rfl) ?_
    refine lv_iconst (v := (nI 1)) hx hb dJ16_add_2_17 (by decide) ?_
    refine n_iadd hx hb dJ16_add_2_18 ?_
    refine s_put (ci := 10) (v := .int (nI (n1 + 1))) (ty := .int) (C := RJ16) (T := TJ16) (N := 3) hx hb hts in_J16 tyJ16 tyJ16_ok nmJ16 hown hK hSep hS 0 rfl rfl 2 (by decide) (hts _ q386) (fun _ h9 => h9) rfl (by decide +kernel) rfl rfl (Nat.le_of_ble_eq_true rfl) dJ16_add_2_19 (fun H locs hSep hS => ?_)
    have hSep : Sep G.1 clA (Fz F s.heap.size) [pts q1 (.inr (10, [.int mm, .ref b, .int (nI (n1 + 1))])), pts b (.inl (G.2.1 4, 10, .inr (.inr (.inr (.inr (va_up f n1 (some e1))))))), R] H := hSep
    rw [hQ]
    exact r_v (u := ()) hx hb hr (trivial) hSep hS (by first | exact Nat.le_of_ble_eq_true rfl | omega | (dsimp only; omega)) (by first | exact Nat.le_of_ble_eq_true rfl | omega | (dsimp only; omega)) dJ16_add_2_22 hlocks
  · exfalso; omega

set_option maxHeartbeats 600000 in
set_option maxRecDepth 100000 in
theorem m_J16_add (l : Launch) (G : EVT) (F : Nat → Prop) (sz : Nat) (q1 : Nat) (mm : Int32) (xs : List Nat) (e1 : Nat) (R : Asn) (Ce : String) (hR : ∀ H, Hol G.1 clA R H → elR G Ce e1 H) (hxl : xs.length < 10) : Met l yJ16_add (ws_ yJ16_add cJ16_add 2 (some .boolean)) ({ frames := 5, cells := 1, slots := 10, locals := 106 } : Room) (SPc G F sz [.ref q1, .ref e1] [listA G q1 (mm) (xs), R] (fun _ => True)) (SQi G F sz (fun (r : Int32) (u : Unit) => r = (bI true)) (fun (u : Unit) => [listA G q1 (mm + nI 1) (xs ++ [e1]), R])) (1) (10) (Fz F sz) := by
  refine sp_of RJ16 (by decide) rfl (Nat.le_of_ble_eq_true rfl) ?_
  intro p e s m args below meth c ls QQ hx hb hr hts hown hlocks hml hnm hsz hSep hΦ hE hS hl hQ
  subst hsz
  have hK := hE.1
  have hl : lv_has ls 2 [(0, .ref q1), (1, .ref e1)] := hl
  rcases list_cs hSep (Pr := [R]) (k := 0) rfl [1] rfl rfl (by decide) with ⟨rfl, hSep2⟩ | ⟨b, f, ⟨hx1, hx2⟩, hSep2⟩
  · have hSep := hSep2
    have hSep : Sep G.1 clA (Fz F s.heap.size) [R, pts q1 (.inr (10, [.int mm, .ref G.2.2.2.1, .int (nI 0)]))] s.heap := hSep
    refine lv_aload_n hx hb dJ16_add_0 rfl (lv_at hl 0 rfl) ?_
    refine lv_dup hx hb dJ16_add_1 rfl ?_
    refine va_get (D := G.1) (ci := 10) (v := .int mm) (C := RJ16) (T := TJ16) (N := 3) hx hb hts in_J16 hown hK (hSep.cel (k := 1) rfl) 0 rfl rfl 0 (by decide) (hts _ q390) (fun x h9 => u_same (hts _ q389) x h9) rfl dJ16_add_2 ?_
    refine lv_iconst (v := (nI 1)) hx hb dJ16_add_5 (by decide) ?_
    refine lv_iadd hx hb dJ16_add_6 ?_
    refine s_put (ci := 10) (v := .int (mm + (nI 1))) (ty := .int) (C := RJ16) (T := TJ16) (N := 3) hx hb hts in_J16 tyJ16 tyJ16_ok nmJ16 hown hK hSep hS 1 rfl rfl 0 (by decide) (hts _ q390) (fun x h9 => u_same (hts _ q389) x h9) rfl (by decide +kernel) rfl rfl (Nat.le_of_ble_eq_true rfl) dJ16_add_7 (fun H locs hSep hS => ?_)
    have hSep : Sep G.1 clA (Fz F s.heap.size) [R, pts q1 (.inr (10, [.int (mm + (nI 1)), .ref G.2.2.2.1, .int (nI 0)]))] H := hSep
    refine lv_aload_n hx hb dJ16_add_10 rfl (lv_at hl 0 rfl) ?_
    refine lv_aload_n hx hb dJ16_add_11 rfl (lv_at hl 1 rfl) ?_
    refine lv_aload_n hx hb dJ16_add_12 rfl (lv_at hl 0 rfl) ?_
    refine va_get (D := G.1) (ci := 10) (v := .ref G.2.2.2.1) (C := RJ16) (T := TJ16) (N := 3) hx hb hts in_J16 hown hK (hSep.cel (k := 1) rfl) 0 rfl rfl 1 (by decide) (hts _ q383) (fun _ h9 => h9) rfl dJ16_add_13 ?_
    refine lv_aload_n hx hb dJ16_add_16 rfl (lv_at hl 0 rfl) ?_
    refine va_get (D := G.1) (ci := 10) (v := .int (nI 0)) (C := RJ16) (T := TJ16) (N := 3) hx hb hts in_J16 hown hK (hSep.cel (k := 1) rfl) 0 rfl rfl 2 (by decide) (hts _ q386) (fun _ h9 => h9) rfl dJ16_add_17 ?_
    obtain ⟨Fk_1, hFk_1, hPk_1, hJk_1⟩ := hSep.cut (Pc := [pts q1 (.inr (10, [.int (mm + (nI 1)), .ref G.2.2.2.1, .int (nI 0)])), R]) (Pr := []) (fun q h => Fz.new (Nat.le_trans hS.1 h)) [1, 0] [] rfl rfl rfl rfl (by decide)
    refine c_v (va_runV (As := [.ref e1, .ref G.2.2.2.1, .int (nI 0)]) (rest := []) ⟨hx, hb, hml, hown, hts⟩ (m_J16_add_2a l G Fk_1 H.size q1 (mm + (nI 1)) e1 R Ce (hR)) (cwV 3 hts (lw_V q474 q476 qs4 q63 q477) rfl rfl rfl (by decide +kernel) ⟨Nat.le_of_ble_eq_true rfl, Nat.le_of_ble_eq_true rfl⟩) (sp_preV hE hS hFk_1 hPk_1 trivial (sp_recv (ci := 10) hK (hSep.cel (k := 1) rfl) rfl)) rfl rfl hl.1 rfl (lv_room (Nat.le_of_ble_eq_true rfl)) dJ16_add_20 ⟨by first | exact Nat.le_of_ble_eq_true rfl | omega | (dsimp only; omega), by first | exact Nat.le_of_ble_eq_true rfl | omega | (dsimp only; omega)⟩) hS hFk_1 hJk_1 (fun u_3 H locs hpk_1 hSep hS hzk_1 => ?_)
    refine W.cs (cells' := 1) (slots' := 10) rfl rfl ?_
    have hSep : Sep G.1 clA (Fz F s.heap.size) [pts q1 (.inr (10, [.int (mm + (nI 1)), .ref u_3, .int (nI 1)])), pts u_3 (.inl (G.2.1 4, 10, .inr (.inr (.inr (.inr (va_up (fun _ => none) 0 (some e1))))))), R] H := hSep
    refine lv_iconst (v := (nI 1)) hx hb dJ16_add_23 (by decide) ?_
    rw [hQ]
    exact r_z (r := (nI 1)) (u := ()) hx hb hr (by decide) (rfl) (Sep.pick (hSep.close (P := listA G q1 (mm + nI 1) ([] ++ [e1])) (Pc := [pts q1 (.inr (10, [.int (mm + (nI 1)), .ref u_3, .int (nI 1)])), pts u_3 (.inl (G.2.1 4, 10, .inr (.inr (.inr (.inr (va_up (fun _ => none) 0 (some e1)))))))]) (Pr := [R]) [0, 1] [2] rfl rfl rfl rfl (by decide) (fun w hw => list_b (by rfl) (by first | (simp; done) | (simp; omega)) (va_up_app (f := fun _ => none) (xs := []) (fun k hk => absurd hk (Nat.not_lt_zero _)) rfl) hw)) [1, 0] rfl rfl) hS (by first | exact Nat.le_of_ble_eq_true rfl | omega | (dsimp only; omega)) (by first | exact Nat.le_of_ble_eq_true rfl | omega | (dsimp only; omega)) dJ16_add_24 hlocks
  · have hSep := hSep2
    have hSep : Sep G.1 clA (Fz F s.heap.size) [R, pts q1 (.inr (10, [.int mm, .ref b, .int (nI xs.length)])), pts b (.inl (G.2.1 4, 10, .inr (.inr (.inr (.inr f)))))] s.heap := hSep
    refine lv_aload_n hx hb dJ16_add_0 rfl (lv_at hl 0 rfl) ?_
    refine lv_dup hx hb dJ16_add_1 rfl ?_
    refine va_get (D := G.1) (ci := 10) (v := .int mm) (C := RJ16) (T := TJ16) (N := 3) hx hb hts in_J16 hown hK (hSep.cel (k := 1) rfl) 0 rfl rfl 0 (by decide) (hts _ q390) (fun x h9 => u_same (hts _ q389) x h9) rfl dJ16_add_2 ?_
    refine lv_iconst (v := (nI 1)) hx hb dJ16_add_5 (by decide) ?_
    refine lv_iadd hx hb dJ16_add_6 ?_
    refine s_put (ci := 10) (v := .int (mm + (nI 1))) (ty := .int) (C := RJ16) (T := TJ16) (N := 3) hx hb hts in_J16 tyJ16 tyJ16_ok nmJ16 hown hK hSep hS 1 rfl rfl 0 (by decide) (hts _ q390) (fun x h9 => u_same (hts _ q389) x h9) rfl (by decide +kernel) rfl rfl (Nat.le_of_ble_eq_true rfl) dJ16_add_7 (fun H locs hSep hS => ?_)
    have hSep : Sep G.1 clA (Fz F s.heap.size) [R, pts q1 (.inr (10, [.int (mm + (nI 1)), .ref b, .int (nI xs.length)])), pts b (.inl (G.2.1 4, 10, .inr (.inr (.inr (.inr f)))))] H := hSep
    refine lv_aload_n hx hb dJ16_add_10 rfl (lv_at hl 0 rfl) ?_
    refine lv_aload_n hx hb dJ16_add_11 rfl (lv_at hl 1 rfl) ?_
    refine lv_aload_n hx hb dJ16_add_12 rfl (lv_at hl 0 rfl) ?_
    refine va_get (D := G.1) (ci := 10) (v := .ref b) (C := RJ16) (T := TJ16) (N := 3) hx hb hts in_J16 hown hK (hSep.cel (k := 1) rfl) 0 rfl rfl 1 (by decide) (hts _ q383) (fun _ h9 => h9) rfl dJ16_add_13 ?_
    refine lv_aload_n hx hb dJ16_add_16 rfl (lv_at hl 0 rfl) ?_
    refine va_get (D := G.1) (ci := 10) (v := .int (nI xs.length)) (C := RJ16) (T := TJ16) (N := 3) hx hb hts in_J16 hown hK (hSep.cel (k := 1) rfl) 0 rfl rfl 2 (by decide) (hts _ q386) (fun _ h9 => h9) rfl dJ16_add_17 ?_
    obtain ⟨Fk_4, hFk_4, hPk_4, hJk_4⟩ := hSep.cut (Pc := [pts q1 (.inr (10, [.int (mm + (nI 1)), .ref b, .int (nI xs.length)])), pts b (.inl (G.2.1 4, 10, .inr (.inr (.inr (.inr f))))), R]) (Pr := []) (fun q h => Fz.new (Nat.le_trans hS.1 h)) [1, 2, 0] [] rfl rfl rfl rfl (by decide)
    refine c_v (va_runV (As := [.ref e1, .ref b, .int (nI xs.length)]) (rest := []) ⟨hx, hb, hml, hown, hts⟩ (m_J16_add_2b l G Fk_4 H.size q1 (mm + (nI 1)) e1 R Ce b f xs.length (hR) (by first | assumption | omega)) (cwV 3 hts (lw_V q474 q476 qs4 q63 q477) rfl rfl rfl (by decide +kernel) ⟨Nat.le_of_ble_eq_true rfl, Nat.le_of_ble_eq_true rfl⟩) (sp_preV hE hS hFk_4 hPk_4 trivial (sp_recv (ci := 10) hK (hSep.cel (k := 1) rfl) rfl)) rfl rfl hl.1 rfl (lv_room (Nat.le_of_ble_eq_true rfl)) dJ16_add_20 ⟨by first | exact Nat.le_of_ble_eq_true rfl | omega | (dsimp only; omega), by first | exact Nat.le_of_ble_eq_true rfl | omega | (dsimp only; omega)⟩) hS hFk_4 hJk_4 (fun u_6 H locs hpk_4 hSep hS hzk_4 => ?_)
    refine W.cs (cells' := 0) (slots' := 0) rfl rfl ?_
    have hSep : Sep G.1 clA (Fz F s.heap.size) [pts q1 (.inr (10, [.int (mm + (nI 1)), .ref b, .int (nI (xs.length + 1))])), pts b (.inl (G.2.1 4, 10, .inr (.inr (.inr (.inr (va_up f xs.length (some e1))))))), R] H := hSep
    refine lv_iconst (v := (nI 1)) hx hb dJ16_add_23 (by decide) ?_
    rw [hQ]
    exact r_z (r := (nI 1)) (u := ()) hx hb hr (by decide) (rfl) (Sep.pick (hSep.close (P := listA G q1 (mm + nI 1) (xs ++ [e1])) (Pc := [pts q1 (.inr (10, [.int (mm + (nI 1)), .ref b, .int (nI (xs.length + 1))])), pts b (.inl (G.2.1 4, 10, .inr (.inr (.inr (.inr (va_up f xs.length (some e1)))))))]) (Pr := [R]) [0, 1] [2] rfl rfl rfl rfl (by decide) (fun w hw => list_b (by simp) (by first | (simp; done) | (simp; omega)) (va_up_app hx2 rfl) hw)) [1, 0] rfl rfl) hS (by first | exact Nat.le_of_ble_eq_true rfl | omega | (dsimp only; omega)) (by first | exact Nat.le_of_ble_eq_true rfl | omega | (dsimp only; omega)) dJ16_add_24 hlocks
