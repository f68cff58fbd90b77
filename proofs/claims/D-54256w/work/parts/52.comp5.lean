set_option maxRecDepth 100000
set_option maxHeartbeats 600000 in
set_option maxRecDepth 100000 in
theorem m_X8_init_2 (l : Launch) (G : EVT) (F : Nat → Prop) (sz : Nat) (Z : List (Nat × List Nat)) (q1 : Nat)  : Met l yX8_init_2 (ws_ yX8_init_2 cX8_init_2 1 none) ({ frames := 4, cells := 1, slots := 3, locals := 94 } : Room) (SPc G F sz [.ref q1] [pts q1 (.inr (6, [.int (nI 0), .int (nI 0), .null, .null]))] (fun _ => True)) (SQv G F sz (fun (u : Unit) => True) (fun (u : Unit) => [tlrA G (Z) q1 (nI 0) (nI 0) ([]) ([])])) (1) (3) (Fz F sz) := by
  refine sp_of RX8 (by decide) rfl (Nat.le_of_ble_eq_true rfl) ?_
  intro p e s m args below meth c ls QQ hx hb hr hts hown hlocks hml hnm hsz hSep hΦ hE hS hl hQ
  subst hsz
  have hK := hE.1
  have hl : lv_has ls 1 [(0, .ref q1)] := hl
  refine lv_aload_n hx hb dX8_init_2_0 rfl (lv_at hl 0 rfl) ?_
  refine W.objInit hx hb hown (hts _ q409) (hts _ q81) (hts _ q82) rfl (by rw [hml]; exact hl.1) rfl dX8_init_2_1 (Nat.le_of_ble_eq_true rfl) (Nat.le_of_ble_eq_true rfl) ?_
  refine W.eq (g2 := F0 m 4 ls []) rfl ?_
  refine lv_aload_n hx hb dX8_init_2_4 rfl (lv_at hl 0 rfl) ?_
  refine s_new (ci := 10) (fs := [.int (nI 0), .null, .int (nI 0)]) (C := RJ16) (T := TJ16) (N := 3) hx hb hts in_J16 tyJ16 tyJ16_ok hown (hts _ q410) (hts _ q373) (hts _ q63) hK hSep hS (fun q h => Fz.new h) rfl (fun j hj => by rcases (show j = 0 ∨ j = 1 ∨ j = 2 by omega) with rfl | rfl | rfl <;> rfl) (by first | exact Nat.le_of_ble_eq_true rfl | omega | (dsimp only; omega)) (by first | exact Nat.le_of_ble_eq_true rfl | omega | (dsimp only; omega)) dX8_init_2_5 (fun q_1 H hSep hS => ?_)
  have hSep : Sep G.1 clA (Fz F s.heap.size) [pts q1 (.inr (6, [.int (nI 0), .int (nI 0), .null, .null])), pts q_1 (.inr (10, [.int (nI 0), .null, .int (nI 0)]))] H := hSep
  refine W.cs (cells' := 1) (slots' := 3) rfl rfl ?_
  refine lv_dup hx hb dX8_init_2_8 rfl ?_
  obtain ⟨Fk_2, hFk_2, hPk_2, hJk_2⟩ := hSep.cut (Pc := [pts q_1 (.inr (10, [.int (nI 0), .null, .int (nI 0)]))]) (Pr := [pts q1 (.inr (6, [.int (nI 0), .int (nI 0), .null, .null]))]) (fun q h => Fz.new (Nat.le_trans hS.1 h)) [1] [0] rfl rfl rfl rfl (by decide)
  refine c_v (va_runI (As := []) (rest := [.ref q_1, .ref q1]) ⟨hx, hb, hml, hown, hts⟩ (m_J16_init l G Fk_2 H.size q_1 ) (cwI 0 hts (lw_meth q376) rfl rfl rfl (hts _ q63) (hts _ q411) (hts _ q375) rfl (by decide +kernel) ⟨Nat.le_of_ble_eq_true rfl, Nat.le_of_ble_eq_true rfl⟩) (sp_preS hE hS hFk_2 hPk_2 trivial) rfl rfl hl.1 rfl (lv_room (Nat.le_of_ble_eq_true rfl)) dX8_init_2_9 ⟨by first | exact Nat.le_of_ble_eq_true rfl | omega | (dsimp only; omega), by first | exact Nat.le_of_ble_eq_true rfl | omega | (dsimp only; omega)⟩) hS hFk_2 hJk_2 (fun u_4 H locs hpk_2 hSep hS hzk_2 => ?_)
  refine W.cs (cells' := 1) (slots' := 3) rfl rfl ?_
  have hSep : Sep G.1 clA (Fz F s.heap.size) [pts q1 (.inr (6, [.int (nI 0), .int (nI 0), .null, .null])), listA G q_1 (nI 0) ([])] H := hSep
  refine s_putF (ci := 6) (v := .ref q_1) (ty := .object "java/util/List") (C := RX8) (T := TX8) (N := 4) hx hb hts in_X8 tyX8 tyX8_ok nmX8 hown hK hSep hS 0 rfl rfl 3 (by decide) (hts _ q508) (fun _ h9 => h9) rfl hnm rfl (by decide +kernel) rfl rfl (Nat.le_of_ble_eq_true rfl) dX8_init_2_12 (fun H locs hSep hS => ?_)
  have hSep : Sep G.1 clA (Fz F s.heap.size) [pts q1 (.inr (6, [.int (nI 0), .int (nI 0), .null, .ref q_1])), listA G q_1 (nI 0) ([])] H := hSep
  rw [hQ]
  exact r_v (u := ()) hx hb hr (trivial) (hSep.close (P := tlrA G (Z) q1 (nI 0) (nI 0) ([]) ([])) (Pc := [pts q1 (.inr (6, [.int (nI 0), .int (nI 0), .null, .ref q_1])), listA G q_1 (nI 0) ([])]) (Pr := []) [0, 1] [] rfl rfl rfl rfl (by decide) (fun w hw => tel_mk (Or.inl ⟨rfl, rfl⟩ : latOk Z none []) hw)) hS (by first | exact Nat.le_of_ble_eq_true rfl | omega | (dsimp only; omega)) (by first | exact Nat.le_of_ble_eq_true rfl | omega | (dsimp only; omega)) dX8_init_2_15 hlocks

set_option maxHeartbeats 600000 in
set_option maxRecDepth 100000 in
theorem m_X8_forbid (l : Launch) (G : EVT) (F : Nat → Prop) (sz : Nat) (Z : List (Nat × List Nat)) (q1 : Nat) (sc : Int32) (so : Int32) (lt : List Nat) (bl : List Nat) (w1 : Nat) (mo : Nat) (hb5 : bl.length ≤ 5) (hb18 : ∀ w ∈ bl, w < 18) (hw : w1 < 18) (hm1 : 1 ≤ mo) (hm5 : mo ≤ 5) : Met l yX8_forbid (ws_ yX8_forbid cX8_forbid 3 (some .int)) ({ frames := 6, cells := 1, slots := 10, locals := 127 } : Room) (SPc G F sz [.ref q1, .int (nI w1), .int (nI mo)] [tlrA G (Z) q1 (sc) (so) (lt) (bl)] (fun _ => True)) (SQi G F sz (fun (r : Int32) (u : Unit) => r = (nI ((banL (bl ++ [w1]) mo).length))) (fun (u : Unit) => [tlrA G (Z) q1 (sc) (so) (lt) (banL (bl ++ [w1]) mo)])) (1) (10) (Fz F sz) := by
  refine sp_of RX8 (by decide) rfl (Nat.le_of_ble_eq_true rfl) ?_
  intro p e s m args below meth c ls QQ hx hb hr hts hown hlocks hml hnm hsz hSep hΦ hE hS hl hQ
  subst hsz
  have hK := hE.1
  have hl : lv_has ls 3 [(0, .ref q1), (1, .int (nI w1)), (2, .int (nI mo))] := hl
  obtain ⟨fl, m9, lr, hlo, hSep⟩ := tel_un hSep (Pr := []) (k := 0) rfl [] rfl rfl (by decide)
  have hbn : ∀ w ∈ bl ++ [w1], w < 18 := fun w h => by rcases List.mem_append.mp h with z | z; exact hb18 w z; rw [List.mem_singleton.mp z]; exact hw
  refine lv_aload_n hx hb dX8_forbid_0 rfl (lv_at hl 0 rfl) ?_
  refine va_get (D := G.1) (ci := 6) (v := .ref fl) (C := RX8) (T := TX8) (N := 4) hx hb hts in_X8 hown hK (hSep.cel (k := 0) rfl) 0 rfl rfl 3 (by decide) (hts _ q508) (fun _ h9 => h9) rfl dX8_forbid_1 ?_
  refine lv_iload_n hx hb dX8_forbid_4 rfl (lv_at hl 1 rfl) ?_
  have hFk_1 : ∀ q, Fz (fun _ => False) s.heap.size q → (Fz F s.heap.size) q := fun q h => by rcases h with h | h; exact h.elim; exact Fz.new (Nat.le_trans hS.1 h)
  have hPk_1 : Sep G.1 clA (Fz (fun _ => False) s.heap.size) [] s.heap := sp_nil
  have hJk_1 := sp_nilJ (F := (fun _ => False)) hSep (fun _ => id) hFk_1
  refine c_q (va_runS (As := [.int (nI w1)]) (rest := [.ref fl]) ⟨hx, hb, hml, hown, hts⟩ (m_J23_valueOf l G s.heap.size w1 (by first | assumption | omega)) (va_cwS 1 hts (lw_S q985 q986 q72 q987) rfl rfl rfl (by decide +kernel) ⟨Nat.le_of_ble_eq_true rfl, Nat.le_of_ble_eq_true rfl⟩) (sp_preS hE hS hFk_1 hPk_1 trivial) rfl rfl hl.1 rfl (lv_room (Nat.le_of_ble_eq_true rfl)) dX8_forbid_5 ⟨by first | exact Nat.le_of_ble_eq_true rfl | omega | (dsimp only; omega), by first | exact Nat.le_of_ble_eq_true rfl | omega | (dsimp only; omega)⟩) hS hFk_1 hJk_1 (fun r_2 u_3 H locs hpk_1 hSep hS hzk_1 => ?_)
  obtain rfl : r_2 = some (G.2.2.1 (w1 + 128)) := hpk_1
  refine W.cs (cells' := 0) (slots' := 0) rfl rfl ?_
  have hSep : Sep G.1 clA (Fz F s.heap.size) [pts q1 (.inr (6, [.int sc, .int so, va_rf lr, .ref fl])), listA G fl (m9) (box G (bl))] H := hSep
  obtain ⟨Fk_4, hFk_4, hPk_4, hJk_4⟩ := hSep.cut (Pc := [listA G fl (m9) ((box G bl)), (pts q1 (.inr (6, [.int sc, .int so, va_rf lr, .ref fl])))]) (Pr := []) (fun q h => Fz.new (Nat.le_trans hS.1 h)) [1, 0] [] rfl rfl rfl rfl (by decide)
  obtain ⟨fsob_5, hob_5⟩ := list_obj (hSep.hol (k := 1) rfl)
  refine c_i5 (va_runF (hK.1 10 _ rfl).2 (As := [.ref (G.2.2.1 (w1 + 128))]) (rest := []) ⟨hx, hb, hml, hown, hts⟩ (m_J16_add l G Fk_4 H.size fl m9 (box G bl) (G.2.2.1 (w1 + 128)) (pts q1 (.inr (6, [.int sc, .int so, va_rf lr, .ref fl]))) ("java/lang/Integer") (fun H _ => Or.inl ⟨rfl, w1 + 128, by omega, rfl⟩) (by rw [box_len]; omega)) (va_cwF 1 hts (lw_F q466 q469 q471 q63 q473) rfl rfl rfl (hE.2.2.1 (fw_ "java/util/ArrayList" "java/util/List" "add" "(Ljava/lang/Object;)Z") (by decide +kernel)) (by decide +kernel) ⟨Nat.le_of_ble_eq_true rfl, Nat.le_of_ble_eq_true rfl⟩) (sp_preV hE hS hFk_4 hPk_4 trivial (sp_recv (ci := 10) hK hob_5 rfl)) rfl rfl hl.1 rfl (lv_room (Nat.le_of_ble_eq_true rfl)) dX8_forbid_8 ⟨by first | exact Nat.le_of_ble_eq_true rfl | omega | (dsimp only; omega), by first | exact Nat.le_of_ble_eq_true rfl | omega | (dsimp only; omega)⟩) hS hFk_4 hJk_4 (fun r_6 u_7 H locs hpk_4 hSep hS hzk_4 => ?_)
  obtain rfl : r_6 = (bI true) := hpk_4
  refine W.cs (cells' := 1) (slots' := 10) rfl rfl ?_
  have hSep : Sep G.1 clA (Fz F s.heap.size) [listA G fl (m9 + nI 1) ((box G bl) ++ [(G.2.2.1 (w1 + 128))]), pts q1 (.inr (6, [.int sc, .int so, va_rf lr, .ref fl]))] H := hSep
  rw [show box G bl ++ [G.2.2.1 (w1 + 128)] = box G (bl ++ [w1]) by unfold box; simp] at hSep
  refine lv_pop hx hb dX8_forbid_13 rfl ?_
  have L14 : ∀ (fu : Nat) (b2 : List Nat) (m2 : Int32) , b2.length < fu → (banL b2 mo = banL (bl ++ [w1]) mo) → (b2.length ≤ 6) → (∀ w ∈ b2, w < 18) → ∀ (H : Heap) (locs : List Loc) (ls : Array Slot), Sep G.1 clA (Fz F s.heap.size) [listA G fl (m2) (box G (b2)), pts q1 (.inr (6, [.int sc, .int so, va_rf lr, .ref fl]))] H → va_S (Fz F s.heap.size) s.heap H locs → lv_has ls 3 [(0, .ref q1), (1, .int (nI w1)), (2, .int (nI mo))] → W p l e ({ frames := 6, cells := 1, slots := 10, locals := 127 } : Room) s m args below meth c H locs (1) (10) QQ (F0 m 14 ls []) := by
    intro fu
    induction fu with
    | zero => intro b2 m2 hm; exact absurd hm (Nat.not_lt_zero _)
    | succ fu ih14 =>
      intro b2 m2 hm14 hp14_0 hp14_1 hp14_2 H locs ls hSep hS hl
      refine lv_aload_n hx hb dX8_forbid_14 rfl (lv_at hl 0 rfl) ?_
      refine va_get (D := G.1) (ci := 6) (v := .ref fl) (C := RX8) (T := TX8) (N := 4) hx hb hts in_X8 hown hK (hSep.cel (k := 1) rfl) 0 rfl rfl 3 (by decide) (hts _ q508) (fun _ h9 => h9) rfl dX8_forbid_15 ?_
      have hFk_8 : ∀ q, Fz (fun _ => False) H.size q → (Fz F s.heap.size) q := fun q h => by rcases h with h | h; exact h.elim; exact Fz.new (Nat.le_trans hS.1 h)
      have hPk_8 : Sep G.1 clA (Fz (fun _ => False) H.size) [] H := sp_nil
      have hJk_8 := sp_nilJ (F := (fun _ => False)) hSep (fun _ => id) hFk_8
      obtain ⟨fsob_9, hob_9⟩ := list_obj (hSep.hol (k := 0) rfl)
      refine c_i5 (va_runF (hK.1 10 _ rfl).2 (As := []) (rest := []) ⟨hx, hb, hml, hown, hts⟩ (m_J16_size l G H.size fl m2 (box G b2) ) (va_cwF 0 hts (lw_F q1006 q554 q556 q63 q558) rfl rfl rfl (hE.2.2.1 (fw_ "java/util/ArrayList" "java/util/List" "size" "()I") (by decide +kernel)) (by decide +kernel) ⟨Nat.le_of_ble_eq_true rfl, Nat.le_of_ble_eq_true rfl⟩) (sp_preV hE hS hFk_8 hPk_8 (hSep.hol (k := 0) rfl) (sp_recv (ci := 10) hK hob_9 rfl)) rfl rfl hl.1 rfl (lv_room (Nat.le_of_ble_eq_true rfl)) dX8_forbid_18 ⟨by first | exact Nat.le_of_ble_eq_true rfl | omega | (dsimp only; omega), by first | exact Nat.le_of_ble_eq_true rfl | omega | (dsimp only; omega)⟩) hS hFk_8 hJk_8 (fun r_10 u_11 H locs hpk_8 hSep hS hzk_8 => ?_)
      obtain rfl : r_10 = (nI ((box G b2).length)) := hpk_8
      refine W.cs (cells' := 1) (slots' := 10) rfl rfl ?_
      have hSep : Sep G.1 clA (Fz F s.heap.size) [listA G fl (m2) (box G (b2)), pts q1 (.inr (6, [.int sc, .int so, va_rf lr, .ref fl]))] H := hSep
      refine n_eq (y := (nI b2.length)) (by rw [box_len]) ?_
      refine lv_iload_n hx hb dX8_forbid_23 rfl (lv_at hl 2 rfl) ?_
      refine n_icmp_le (tgt := 41) hx hb (by omega) (by omega) dX8_forbid_24 (by decide) (fun c24 => ?_) (fun c24 => ?_)
      · have hb9 : b2 = banL (bl ++ [w1]) mo := by rw [← hp14_0, banL_le (by omega)]
        refine lv_aload_n hx hb dX8_forbid_41 rfl (lv_at hl 0 rfl) ?_
        refine va_get (D := G.1) (ci := 6) (v := .ref fl) (C := RX8) (T := TX8) (N := 4) hx hb hts in_X8 hown hK (hSep.cel (k := 1) rfl) 0 rfl rfl 3 (by decide) (hts _ q508) (fun _ h9 => h9) rfl dX8_forbid_42 ?_
        have hFk_12 : ∀ q, Fz (fun _ => False) H.size q → (Fz F s.heap.size) q := fun q h => by rcases h with h | h; exact h.elim; exact Fz.new (Nat.le_trans hS.1 h)
        have hPk_12 : Sep G.1 clA (Fz (fun _ => False) H.size) [] H := sp_nil
        have hJk_12 := sp_nilJ (F := (fun _ => False)) hSep (fun _ => id) hFk_12
        obtain ⟨fsob_13, hob_13⟩ := list_obj (hSep.hol (k := 0) rfl)
        refine c_i5 (va_runF (hK.1 10 _ rfl).2 (As := []) (rest := []) ⟨hx, hb, hml, hown, hts⟩ (m_J16_size l G H.size fl m2 (box G b2) ) (va_cwF 0 hts (lw_F q1006 q554 q556 q63 q558) rfl rfl rfl (hE.2.2.1 (fw_ "java/util/ArrayList" "java/util/List" "size" "()I") (by decide +kernel)) (by decide +kernel) ⟨Nat.le_of_ble_eq_true rfl, Nat.le_of_ble_eq_true rfl⟩) (sp_preV hE hS hFk_12 hPk_12 (hSep.hol (k := 0) rfl) (sp_recv (ci := 10) hK hob_13 rfl)) rfl rfl hl.1 rfl (lv_room (Nat.le_of_ble_eq_true rfl)) dX8_forbid_45 ⟨by first | exact Nat.le_of_ble_eq_true rfl | omega | (dsimp only; omega), by first | exact Nat.le_of_ble_eq_true rfl | omega | (dsimp only; omega)⟩) hS hFk_12 hJk_12 (fun r_14 u_15 H locs hpk_12 hSep hS hzk_12 => ?_)
        obtain rfl : r_14 = (nI ((box G b2).length)) := hpk_12
        refine W.cs (cells' := 1) (slots' := 10) rfl rfl ?_
        have hSep : Sep G.1 clA (Fz F s.heap.size) [listA G fl (m2) (box G (b2)), pts q1 (.inr (6, [.int sc, .int so, va_rf lr, .ref fl]))] H := hSep
        refine n_eq (y := (nI b2.length)) (by rw [box_len]) ?_
        rw [hQ]
        exact r_i (r := (nI b2.length)) (u := ()) hx hb hr (by rw [← hb9]) (by rw [← hb9]; exact (hSep.close (P := tlrA G (Z) q1 (sc) (so) (lt) (b2)) (Pc := [pts q1 (.inr (6, [.int sc, .int so, va_rf lr, .ref fl])), listA G fl (m2) (box G (b2))]) (Pr := []) [1, 0] [] rfl rfl rfl rfl (by decide) (fun w hw => tel_mk (hlo) hw))) hS (by first | exact Nat.le_of_ble_eq_true rfl | omega | (dsimp only; omega)) (by first | exact Nat.le_of_ble_eq_true rfl | omega | (dsimp only; omega)) dX8_forbid_50 hlocks
      · refine lv_aload_n hx hb dX8_forbid_27 rfl (lv_at hl 0 rfl) ?_
        refine va_get (D := G.1) (ci := 6) (v := .ref fl) (C := RX8) (T := TX8) (N := 4) hx hb hts in_X8 hown hK (hSep.cel (k := 1) rfl) 0 rfl rfl 3 (by decide) (hts _ q508) (fun _ h9 => h9) rfl dX8_forbid_28 ?_
        refine lv_iconst (v := (nI 0)) hx hb dX8_forbid_31 (by decide) ?_
        obtain ⟨Fk_16, hFk_16, hPk_16, hJk_16⟩ := hSep.cut (Pc := [listA G fl (m2) ((box G b2)), (pts q1 (.inr (6, [.int sc, .int so, va_rf lr, .ref fl])))]) (Pr := []) (fun q h => Fz.new (Nat.le_trans hS.1 h)) [0, 1] [] rfl rfl rfl rfl (by decide)
        obtain ⟨fsob_17, hob_17⟩ := list_obj (hSep.hol (k := 0) rfl)
        refine c_q5 (va_runF (hK.1 10 _ rfl).2 (As := [.int (nI 0)]) (rest := []) ⟨hx, hb, hml, hown, hts⟩ (m_J16_remove l G Fk_16 H.size fl m2 (box G b2) 0 (pts q1 (.inr (6, [.int sc, .int so, va_rf lr, .ref fl]))) ("java/lang/Integer") (fun H _ => box_el hp14_2 H) (by rw [box_len]; omega)) (va_cwF 1 hts (lw_F q1008 q867 q869 q63 q871) rfl rfl rfl (hE.2.2.1 (fw_ "java/util/ArrayList" "java/util/List" "remove" "(I)Ljava/lang/Object;") (by decide +kernel)) (by decide +kernel) ⟨Nat.le_of_ble_eq_true rfl, Nat.le_of_ble_eq_true rfl⟩) (sp_preV hE hS hFk_16 hPk_16 trivial (sp_recv (ci := 10) hK hob_17 rfl)) rfl rfl hl.1 rfl (lv_room (Nat.le_of_ble_eq_true rfl)) dX8_forbid_32 ⟨by first | exact Nat.le_of_ble_eq_true rfl | omega | (dsimp only; omega), by first | exact Nat.le_of_ble_eq_true rfl | omega | (dsimp only; omega)⟩) hS hFk_16 hJk_16 (fun r_18 u_19 H locs hpk_16 hSep hS hzk_16 => ?_)
        obtain rfl : r_18 = some ((box G b2).getD 0 0) := hpk_16
        refine W.cs (cells' := 1) (slots' := 10) rfl rfl ?_
        have hSep : Sep G.1 clA (Fz F s.heap.size) [listA G fl (m2 + nI 1) ((box G b2).eraseIdx 0), pts q1 (.inr (6, [.int sc, .int so, va_rf lr, .ref fl]))] H := hSep
        rw [show (box G b2).eraseIdx 0 = box G b2.tail by unfold box; cases b2 <;> simp] at hSep
        refine lv_pop hx hb dX8_forbid_37 rfl ?_
        refine lv_goto (tgt := 14) hx hb dX8_forbid_38 (by decide) ?_
        exact ih14 b2.tail (m2 + nI 1) (by rw [List.length_tail]; omega) (by rw [banL_tl (by omega)]; exact hp14_0) (by rw [List.length_tail]; omega) (fun w h => hp14_2 w (List.mem_of_mem_tail h)) _ _ _ hSep hS (lv_sub hl [0, 1, 2] rfl)
  exact L14 ((bl ++ [w1]).length + 1) (bl ++ [w1]) (m9 + nI 1) (Nat.lt_succ_self _) (rfl) (by simp; omega) (hbn) _ _ _ hSep hS (lv_sub hl [0, 1, 2] rfl)

set_option maxHeartbeats 600000 in
set_option maxRecDepth 100000 in
theorem m_X8_bans (l : Launch) (G : EVT) (F : Nat → Prop) (sz : Nat) (Z : List (Nat × List Nat)) (q1 : Nat) (sc : Int32) (so : Int32) (lt : List Nat) (bl : List Nat) (hb18 : ∀ w ∈ bl, w < 18) : Met l yX8_bans (ws_ yX8_bans cX8_bans 4 (some .int)) ({ frames := 3, cells := 1, slots := 4, locals := 75 } : Room) (SPc G F sz [.ref q1] [tlrA G (Z) q1 (sc) (so) (lt) (bl)] (fun _ => True)) (SQi G F sz (fun (r : Int32) (u : Unit) => r = (msk bl)) (fun (u : Unit) => [tlrA G (Z) q1 (sc) (so) (lt) (bl)])) (1) (4) (Fz F sz) := by
  refine sp_of RX8 (by decide) rfl (Nat.le_of_ble_eq_true rfl) ?_
  intro p e s m args below meth c ls QQ hx hb hr hts hown hlocks hml hnm hsz hSep hΦ hE hS hl hQ
  subst hsz
  have hK := hE.1
  have hl : lv_has ls 4 [(0, .ref q1)] := hl
  obtain ⟨fl, m9, lr, hlo, hSep⟩ := tel_un hSep (Pr := []) (k := 0) rfl [] rfl rfl (by decide)
  refine lv_iconst (v := (nI 0)) hx hb dX8_bans_0 (by decide) ?_
  refine n_eq (y := (msk (bl.take 0))) (msk_nil.symm) ?_
  refine lv_istore_n (lv' := [(1, .int (msk (bl.take 0))), (0, .ref q1)]) hx hb dX8_bans_1 rfl hl (by decide) rfl (fun ls hl => ?_)
  refine lv_aload_n hx hb dX8_bans_2 rfl (lv_at hl 1 rfl) ?_
  refine va_get (D := G.1) (ci := 6) (v := .ref fl) (C := RX8) (T := TX8) (N := 4) hx hb hts in_X8 hown hK (hSep.cel (k := 0) rfl) 0 rfl rfl 3 (by decide) (hts _ q508) (fun _ h9 => h9) rfl dX8_bans_3 ?_
  obtain ⟨Fk_1, hFk_1, hPk_1, hJk_1⟩ := hSep.cut (Pc := [listA G fl (m9) ((box G bl))]) (Pr := [pts q1 (.inr (6, [.int sc, .int so, va_rf lr, .ref fl]))]) (fun q h => Fz.new (Nat.le_trans hS.1 h)) [1] [0] rfl rfl rfl rfl (by decide)
  obtain ⟨fsob_2, hob_2⟩ := list_obj (hSep.hol (k := 1) rfl)
  refine c_r5 (va_runF (hK.1 10 _ rfl).2 (As := []) (rest := []) ⟨hx, hb, hml, hown, hts⟩ (m_J16_iterator l G Fk_1 s.heap.size fl m9 (box G bl) ) (va_cwF 0 hts (lw_F q413 q417 q419 q63 q421) rfl rfl rfl (hE.2.2.1 (fw_ "java/util/ArrayList" "java/util/List" "iterator" "()Ljava/util/Iterator;") (by decide +kernel)) (by decide +kernel) ⟨Nat.le_of_ble_eq_true rfl, Nat.le_of_ble_eq_true rfl⟩) (sp_preV hE hS hFk_1 hPk_1 trivial (sp_recv (ci := 10) hK hob_2 rfl)) rfl rfl hl.1 rfl (lv_room (Nat.le_of_ble_eq_true rfl)) dX8_bans_6 ⟨by first | exact Nat.le_of_ble_eq_true rfl | omega | (dsimp only; omega), by first | exact Nat.le_of_ble_eq_true rfl | omega | (dsimp only; omega)⟩) hS hFk_1 hJk_1 (fun u_4 r_3 H locs hpk_1 hSep hS hzk_1 => ?_)
  refine W.cs (cells' := 1) (slots' := 4) rfl rfl ?_
  have hSep : Sep G.1 clA (Fz F s.heap.size) [pts q1 (.inr (6, [.int sc, .int so, va_rf lr, .ref fl])), listA G fl (m9) ((box G bl)), pts r_3 (.inr (11, [.int (nI 0), .int (-1), .int m9, .ref fl]))] H := hSep
  refine lv_astore_n (lv' := [(2, .ref r_3), (1, .int (msk (bl.take 0))), (0, .ref q1)]) hx hb dX8_bans_11 rfl hl (by decide) rfl (fun ls hl => ?_)
  have L12 : ∀ (fu : Nat) (k : Nat) (lr9 : Int32) , bl.length - k < fu → (k ≤ bl.length) → ∀ (H : Heap) (locs : List Loc) (ls : Array Slot), Sep G.1 clA (Fz F s.heap.size) [pts q1 (.inr (6, [.int sc, .int so, va_rf lr, .ref fl])), listA G fl (m9) ((box G bl)), pts r_3 (.inr (11, [.int (nI k), .int lr9, .int m9, .ref fl]))] H → va_S (Fz F s.heap.size) s.heap H locs → lv_has ls 4 [(2, .ref r_3), (1, .int (msk (bl.take k))), (0, .ref q1)] → W p l e ({ frames := 3, cells := 1, slots := 4, locals := 75 } : Room) s m args below meth c H locs (1) (4) QQ (F0 m 12 ls []) := by
    intro fu
    induction fu with
    | zero => intro k lr9 hm; exact absurd hm (Nat.not_lt_zero _)
    | succ fu ih12 =>
      intro k lr9 hm12 hp12_0 H locs ls hSep hS hl
      refine lv_aload_n hx hb dX8_bans_12 rfl (lv_at hl 0 rfl) ?_
      obtain ⟨Fk_5, hFk_5, hPk_5, hJk_5⟩ := hSep.cut (Pc := [pts r_3 (.inr (11, [.int (nI k), .int lr9, .int m9, .ref fl])), listA G fl (m9) ((box G bl))]) (Pr := [pts q1 (.inr (6, [.int sc, .int so, va_rf lr, .ref fl]))]) (fun q h => Fz.new (Nat.le_trans hS.1 h)) [2, 1] [0] rfl rfl rfl rfl (by decide)
      refine c_i5 (va_runF (hK.1 11 _ rfl).2 (As := []) (rest := []) ⟨hx, hb, hml, hown, hts⟩ (m_J12_hasNext l G Fk_5 H.size r_3 k lr9 fl m9 (box G bl) (by rw [box_len]; omega)) (va_cwF 0 hts (lw_F q442 q446 q448 q56 q450) rfl rfl rfl (hE.2.2.1 (fw_ "java/util/ArrayList$Itr" "java/util/Iterator" "hasNext" "()Z") (by decide +kernel)) (by decide +kernel) ⟨Nat.le_of_ble_eq_true rfl, Nat.le_of_ble_eq_true rfl⟩) (sp_preV hE hS hFk_5 hPk_5 trivial (sp_recv (ci := 11) hK (hSep.cel (k := 2) rfl) rfl)) rfl rfl hl.1 rfl (lv_room (Nat.le_of_ble_eq_true rfl)) dX8_bans_13 ⟨by first | exact Nat.le_of_ble_eq_true rfl | omega | (dsimp only; omega), by first | exact Nat.le_of_ble_eq_true rfl | omega | (dsimp only; omega)⟩) hS hFk_5 hJk_5 (fun r_6 u_7 H locs hpk_5 hSep hS hzk_5 => ?_)
      obtain rfl : r_6 = (bI (decide (k < (box G bl).length))) := hpk_5
      refine W.cs (cells' := 1) (slots' := 4) rfl rfl ?_
      have hSep : Sep G.1 clA (Fz F s.heap.size) [pts q1 (.inr (6, [.int sc, .int so, va_rf lr, .ref fl])), pts r_3 (.inr (11, [.int (nI k), .int lr9, .int m9, .ref fl])), listA G fl (m9) ((box G bl))] H := hSep
      refine n_eq (y := (bI (decide (k < bl.length)))) (by rw [box_len]) ?_
      refine b_if_eq (tgt := 43) hx hb dX8_bans_18 (by decide) (fun c18 => ?_) (fun c18 => ?_)
      · obtain rfl : k = bl.length := by have := of_decide_eq_false c18; omega
        rw [List.take_length] at hl
        refine lv_iload_n hx hb dX8_bans_43 rfl (lv_at hl 1 rfl) ?_
        rw [hQ]
        exact r_i (r := (msk bl)) (u := ()) hx hb hr (rfl) (Sep.pick (hSep.close (P := tlrA G (Z) q1 (sc) (so) (lt) (bl)) (Pc := [pts q1 (.inr (6, [.int sc, .int so, va_rf lr, .ref fl])), listA G fl (m9) ((box G bl))]) (Pr := [pts r_3 (.inr (11, [.int (nI bl.length), .int lr9, .int m9, .ref fl]))]) [0, 2] [1] rfl rfl rfl rfl (by decide) (fun w hw => tel_mk (hlo) hw)) [1] rfl rfl) hS (by first | exact Nat.le_of_ble_eq_true rfl | omega | (dsimp only; omega)) (by first | exact Nat.le_of_ble_eq_true rfl | omega | (dsimp only; omega)) dX8_bans_44 hlocks
      · have hk8 : k < bl.length := of_decide_eq_true c18
        refine lv_aload_n hx hb dX8_bans_21 rfl (lv_at hl 0 rfl) ?_
        obtain ⟨Fk_8, hFk_8, hPk_8, hJk_8⟩ := hSep.cut (Pc := [pts r_3 (.inr (11, [.int (nI k), .int lr9, .int m9, .ref fl])), listA G fl (m9) ((box G bl))]) (Pr := [pts q1 (.inr (6, [.int sc, .int so, va_rf lr, .ref fl]))]) (fun q h => Fz.new (Nat.le_trans hS.1 h)) [1, 2] [0] rfl rfl rfl rfl (by decide)
        refine c_q5 (va_runF (hK.1 11 _ rfl).2 (As := []) (rest := []) ⟨hx, hb, hml, hown, hts⟩ (m_J12_next l G Fk_8 H.size r_3 k lr9 fl m9 (box G bl) (by rw [box_len]; omega)) (va_cwF 0 hts (lw_F q452 q455 q457 q56 q459) rfl rfl rfl (hE.2.2.1 (fw_ "java/util/ArrayList$Itr" "java/util/Iterator" "next" "()Ljava/lang/Object;") (by decide +kernel)) (by decide +kernel) ⟨Nat.le_of_ble_eq_true rfl, Nat.le_of_ble_eq_true rfl⟩) (sp_preV hE hS hFk_8 hPk_8 trivial (sp_recv (ci := 11) hK (hSep.cel (k := 1) rfl) rfl)) rfl rfl hl.1 rfl (lv_room (Nat.le_of_ble_eq_true rfl)) dX8_bans_22 ⟨by first | exact Nat.le_of_ble_eq_true rfl | omega | (dsimp only; omega), by first | exact Nat.le_of_ble_eq_true rfl | omega | (dsimp only; omega)⟩) hS hFk_8 hJk_8 (fun r_9 u_10 H locs hpk_8 hSep hS hzk_8 => ?_)
        obtain rfl : r_9 = some ((box G bl).getD k 0) := hpk_8
        refine W.cs (cells' := 1) (slots' := 4) rfl rfl ?_
        have hSep : Sep G.1 clA (Fz F s.heap.size) [pts q1 (.inr (6, [.int sc, .int so, va_rf lr, .ref fl])), pts r_3 (.inr (11, [.int (nI (k + 1)), .int (nI k), .int m9, .ref fl])), listA G fl (m9) ((box G bl))] H := hSep
        have hel : elR G "java/lang/Integer" (G.2.2.1 (bl.getD k 0 + 128)) H := Or.inl ⟨rfl, _, by have := getD_lt hb18 (show k < bl.length by omega); omega, rfl⟩
        refine n_eqv (y := .ref (G.2.2.1 (bl.getD k 0 + 128))) (by rw [box_getD (by omega)]; rfl) ?_
        refine va_castS (nm := RJ23) hx hb hown (hts _ q464) (hK.1 12 _ rfl).2 (el_cell hE hS hel) dX8_bans_27 ?_
        have hFk_11 : ∀ q, Fz (fun _ => False) H.size q → (Fz F s.heap.size) q := fun q h => by rcases h with h | h; exact h.elim; exact Fz.new (Nat.le_trans hS.1 h)
        have hPk_11 : Sep G.1 clA (Fz (fun _ => False) H.size) [] H := sp_nil
        have hJk_11 := sp_nilJ (F := (fun _ => False)) hSep (fun _ => id) hFk_11
        refine c_i (va_runV (As := []) (rest := []) ⟨hx, hb, hml, hown, hts⟩ (m_J23_intValue l G H.size (bl.getD k 0) (by have := getD_lt hb18 (show k < bl.length by omega); omega)) (cwV 0 hts (lw_V q972 q973 q974 q72 q975) rfl rfl rfl (by decide +kernel) ⟨Nat.le_of_ble_eq_true rfl, Nat.le_of_ble_eq_true rfl⟩) (sp_preV hE hS hFk_11 hPk_11 trivial (el_cell hE hS hel)) rfl rfl hl.1 rfl (lv_room (Nat.le_of_ble_eq_true rfl)) dX8_bans_30 ⟨by first | exact Nat.le_of_ble_eq_true rfl | omega | (dsimp only; omega), by first | exact Nat.le_of_ble_eq_true rfl | omega | (dsimp only; omega)⟩) hS hFk_11 hJk_11 (fun r_12 u_13 H locs hpk_11 hSep hS hzk_11 => ?_)
        obtain rfl : r_12 = (nI (bl.getD k 0)) := hpk_11
        refine W.cs (cells' := 1) (slots' := 4) rfl rfl ?_
        have hSep : Sep G.1 clA (Fz F s.heap.size) [pts q1 (.inr (6, [.int sc, .int so, va_rf lr, .ref fl])), pts r_3 (.inr (11, [.int (nI (k + 1)), .int (nI k), .int m9, .ref fl])), listA G fl (m9) ((box G bl))] H := hSep
        refine lv_istore_n (lv' := [(3, .int (nI (bl.getD k 0))), (2, .ref r_3), (1, .int (msk (bl.take k))), (0, .ref q1)]) hx hb dX8_bans_33 rfl hl (by decide) rfl (fun ls hl => ?_)
        refine lv_iload_n hx hb dX8_bans_34 rfl (lv_at hl 2 rfl) ?_
        refine lv_iconst (v := (nI 1)) hx hb dX8_bans_35 (by decide) ?_
        refine lv_iload_n hx hb dX8_bans_36 rfl (lv_at hl 0 rfl) ?_
        refine lv_ishl hx hb dX8_bans_37 ?_
        refine lv_ior hx hb dX8_bans_38 ?_
        refine n_eq (y := (msk (bl.take (k + 1)))) (by rw [take_s (by omega), msk_app (getD_lt hb18 (by omega))]) ?_
        refine lv_istore_n (lv' := [(1, .int (msk (bl.take (k + 1)))), (3, .int (nI (bl.getD k 0))), (2, .ref r_3), (0, .ref q1)]) hx hb dX8_bans_39 rfl hl (by decide) rfl (fun ls hl => ?_)
        refine lv_goto (tgt := 12) hx hb dX8_bans_40 (by decide) ?_
        exact ih12 (k + 1) (nI k) (by omega) (by omega) _ _ _ (hSep.pick [0, 2, 1] rfl rfl) hS (lv_sub hl [2, 0, 3] rfl)
  exact L12 (bl.length - 0 + 1) 0 (-1) (Nat.lt_succ_self _) (by omega) _ _ _ hSep hS (lv_sub hl [0, 1, 2] rfl)

set_option maxHeartbeats 600000 in
set_option maxRecDepth 100000 in
theorem m_X8_latestWords (l : Launch) (G : EVT) (F : Nat → Prop) (sz : Nat) (Z : List (Nat × List Nat)) (q1 : Nat) (sc : Int32) (so : Int32) (lt : List Nat) (bl : List Nat)  : Met l yX8_latestWords (ws_ yX8_latestWords cX8_latestWords 1 (some .int)) ({ frames := 2, cells := 0, slots := 0, locals := 43 } : Room) (SPc G F sz [.ref q1] [tlrA G (Z) q1 (sc) (so) (lt) (bl), frozA G Z] (fun _ => True)) (SQi G F sz (fun (r : Int32) (u : Unit) => r = (msk lt)) (fun (u : Unit) => [tlrA G (Z) q1 (sc) (so) (lt) (bl), frozA G Z])) (0) (0) (Fz F sz) := by
  refine sp_of RX8 (by decide) rfl (Nat.le_of_ble_eq_true rfl) ?_
  intro p e s m args below meth c ls QQ hx hb hr hts hown hlocks hml hnm hsz hSep hΦ hE hS hl hQ
  subst hsz
  have hK := hE.1
  have hl : lv_has ls 1 [(0, .ref q1)] := hl
  obtain ⟨fl, m9, lr, hlo, hSep⟩ := tel_un hSep (Pr := [frozA G Z]) (k := 0) rfl [1] rfl rfl (by decide)
  refine lv_aload_n hx hb dX8_latestWords_0 rfl (lv_at hl 0 rfl) ?_
  refine va_get (D := G.1) (ci := 6) (v := va_rf lr) (C := RX8) (T := TX8) (N := 4) hx hb hts in_X8 hown hK (hSep.cel (k := 1) rfl) 0 rfl rfl 2 (by decide) (hts _ q505) (fun _ h9 => h9) rfl dX8_latestWords_1 ?_
  cases lr with
  | none =>
    refine lv_ifnonnullN hx hb dX8_latestWords_4 ?_
    refine lv_iconst (v := (nI 0)) hx hb dX8_latestWords_7 (by decide) ?_
    refine lv_goto (tgt := 18) hx hb dX8_latestWords_8 (by decide) ?_
    rw [hQ]
    exact r_i (r := (nI 0)) (u := ()) hx hb hr (by rw [lat_none hlo, msk_nil]) (Sep.pick (hSep.close (P := tlrA G (Z) q1 (sc) (so) (lt) (bl)) (Pc := [pts q1 (.inr (6, [.int sc, .int so, .null, .ref fl])), listA G fl (m9) (box G (bl))]) (Pr := [frozA G Z]) [1, 2] [0] rfl rfl rfl rfl (by decide) (fun w hw => tel_mk (hlo) hw)) [1, 0] rfl rfl) hS (by first | exact Nat.le_of_ble_eq_true rfl | omega | (dsimp only; omega)) (by first | exact Nat.le_of_ble_eq_true rfl | omega | (dsimp only; omega)) dX8_latestWords_18 hlocks
  | some r9 =>
    refine lv_ifnonnull (tgt := 11) hx hb dX8_latestWords_4 (by decide) ?_
    refine lv_aload_n hx hb dX8_latestWords_11 rfl (lv_at hl 0 rfl) ?_
    refine va_get (D := G.1) (ci := 6) (v := .ref r9) (C := RX8) (T := TX8) (N := 4) hx hb hts in_X8 hown hK (hSep.cel (k := 1) rfl) 0 rfl rfl 2 (by decide) (hts _ q505) (fun _ h9 => h9) rfl dX8_latestWords_12 ?_
    obtain ⟨C9, hZ9, hs9, hlt9⟩ := lat_some hlo
    obtain ⟨ch9, fC9, ⟨hC1, hC2, hC3⟩, hvp⟩ := froz_get (hSep.hol (k := 0) rfl) hZ9
    have hFk_1 : ∀ q, Fz (fun _ => False) s.heap.size q → (Fz F s.heap.size) q := fun q h => by rcases h with h | h; exact h.elim; exact Fz.new (Nat.le_trans hS.1 h)
    have hPk_1 : Sep G.1 clA (Fz (fun _ => False) s.heap.size) [] s.heap := sp_nil
    have hJk_1 := sp_nilJ (F := (fun _ => False)) hSep (fun _ => id) hFk_1
    refine c_i (va_runV (As := []) (rest := []) ⟨hx, hb, hml, hown, hts⟩ (m_X3_set l G s.heap.size r9 ch9 fC9 C9 (hC1) (hC2) (hC3) (hs9)) (cwV 0 hts (lw_V q960 q961 q962 q43 q963) rfl rfl rfl (by decide +kernel) ⟨Nat.le_of_ble_eq_true rfl, Nat.le_of_ble_eq_true rfl⟩) (sp_preV hE hS hFk_1 hPk_1 hvp (sp_recv (ci := 2) hK (hvp.sub [0] rfl) rfl)) rfl rfl hl.1 rfl (lv_room (Nat.le_of_ble_eq_true rfl)) dX8_latestWords_15 ⟨by first | exact Nat.le_of_ble_eq_true rfl | omega | (dsimp only; omega), by first | exact Nat.le_of_ble_eq_true rfl | omega | (dsimp only; omega)⟩) hS hFk_1 hJk_1 (fun r_2 u_3 H locs hpk_1 hSep hS hzk_1 => ?_)
    obtain rfl : r_2 = (msk (tW C9)) := hpk_1
    refine W.cs (cells' := 0) (slots' := 0) rfl rfl ?_
    have hSep : Sep G.1 clA (Fz F s.heap.size) [frozA G Z, pts q1 (.inr (6, [.int sc, .int so, .ref r9, .ref fl])), listA G fl (m9) (box G (bl))] H := hSep
    rw [hQ]
    exact r_i (r := (msk (tW C9))) (u := ()) hx hb hr (by rw [hlt9]) (Sep.pick (hSep.close (P := tlrA G (Z) q1 (sc) (so) (lt) (bl)) (Pc := [pts q1 (.inr (6, [.int sc, .int so, .ref r9, .ref fl])), listA G fl (m9) (box G (bl))]) (Pr := [frozA G Z]) [1, 2] [0] rfl rfl rfl rfl (by decide) (fun w hw => tel_mk (hlo) hw)) [1, 0] rfl rfl) hS (by first | exact Nat.le_of_ble_eq_true rfl | omega | (dsimp only; omega)) (by first | exact Nat.le_of_ble_eq_true rfl | omega | (dsimp only; omega)) dX8_latestWords_18 hlocks

set_option maxHeartbeats 600000 in
set_option maxRecDepth 100000 in
theorem m_X8_init (l : Launch) (G : EVT) (F : Nat → Prop) (sz : Nat) (Z : List (Nat × List Nat)) (q1 : Nat) (q2 : Nat) (sc : Int32) (so : Int32) (lt : List Nat) (bl : List Nat) (hb5 : bl.length ≤ 5) (hb18 : ∀ w ∈ bl, w < 18) : Met l yX8_init (ws_ yX8_init cX8_init 4 none) ({ frames := 6, cells := 7, slots := 57, locals := 127 } : Room) (SPc G F sz [.ref q1, .ref q2] [pts q1 (.inr (6, [.int (nI 0), .int (nI 0), .null, .null])), tlrA G (Z) q2 (sc) (so) (lt) (bl)] (fun _ => True)) (SQv G F sz (fun (u : Unit) => True) (fun (u : Unit) => [tlrA G (Z) q1 (sc) (so) (lt) (bl), tlrA G (Z) q2 (sc) (so) (lt) (bl)])) (7) (57) (Fz F sz) := by
  refine sp_of RX8 (by decide) rfl (Nat.le_of_ble_eq_true rfl) ?_
  intro p e s m args below meth c ls QQ hx hb hr hts hown hlocks hml hnm hsz hSep hΦ hE hS hl hQ
  subst hsz
  have hK := hE.1
  have hl : lv_has ls 4 [(0, .ref q1), (1, .ref q2)] := hl
  obtain ⟨fl, m9, lr, hlo, hSep⟩ := tel_un hSep (Pr := [pts q1 (.inr (6, [.int (nI 0), .int (nI 0), .null, .null]))]) (k := 1) rfl [0] rfl rfl (by decide)
  refine lv_aload_n hx hb dX8_init_0 rfl (lv_at hl 0 rfl) ?_
  refine W.objInit hx hb hown (hts _ q409) (hts _ q81) (hts _ q82) rfl (by rw [hml]; exact hl.1) rfl dX8_init_1 (Nat.le_of_ble_eq_true rfl) (Nat.le_of_ble_eq_true rfl) ?_
  refine W.eq (g2 := F0 m 4 ls []) rfl ?_
  refine lv_aload_n hx hb dX8_init_4 rfl (lv_at hl 0 rfl) ?_
  refine s_new (ci := 10) (fs := [.int (nI 0), .null, .int (nI 0)]) (C := RJ16) (T := TJ16) (N := 3) hx hb hts in_J16 tyJ16 tyJ16_ok hown (hts _ q410) (hts _ q373) (hts _ q63) hK hSep hS (fun q h => Fz.new h) rfl (fun j hj => by rcases (show j = 0 ∨ j = 1 ∨ j = 2 by omega) with rfl | rfl | rfl <;> rfl) (by first | exact Nat.le_of_ble_eq_true rfl | omega | (dsimp only; omega)) (by first | exact Nat.le_of_ble_eq_true rfl | omega | (dsimp only; omega)) dX8_init_5 (fun q_1 H hSep hS => ?_)
  have hSep : Sep G.1 clA (Fz F s.heap.size) [pts q1 (.inr (6, [.int (nI 0), .int (nI 0), .null, .null])), pts q2 (.inr (6, [.int sc, .int so, va_rf lr, .ref fl])), listA G fl (m9) (box G (bl)), pts q_1 (.inr (10, [.int (nI 0), .null, .int (nI 0)]))] H := hSep
  refine W.cs (cells' := 1) (slots' := 3) rfl rfl ?_
  refine lv_dup hx hb dX8_init_8 rfl ?_
  obtain ⟨Fk_2, hFk_2, hPk_2, hJk_2⟩ := hSep.cut (Pc := [pts q_1 (.inr (10, [.int (nI 0), .null, .int (nI 0)]))]) (Pr := [pts q1 (.inr (6, [.int (nI 0), .int (nI 0), .null, .null])), pts q2 (.inr (6, [.int sc, .int so, va_rf lr, .ref fl])), listA G fl (m9) (box G (bl))]) (fun q h => Fz.new (Nat.le_trans hS.1 h)) [3] [0, 1, 2] rfl rfl rfl rfl (by decide)
  refine c_v (va_runI (As := []) (rest := [.ref q_1, .ref q1]) ⟨hx, hb, hml, hown, hts⟩ (m_J16_init l G Fk_2 H.size q_1 ) (cwI 0 hts (lw_meth q376) rfl rfl rfl (hts _ q63) (hts _ q411) (hts _ q375) rfl (by decide +kernel) ⟨Nat.le_of_ble_eq_true rfl, Nat.le_of_ble_eq_true rfl⟩) (sp_preS hE hS hFk_2 hPk_2 trivial) rfl rfl hl.1 rfl (lv_room (Nat.le_of_ble_eq_true rfl)) dX8_init_9 ⟨by first | exact Nat.le_of_ble_eq_true rfl | omega | (dsimp only; omega), by first | exact Nat.le_of_ble_eq_true rfl | omega | (dsimp only; omega)⟩) hS hFk_2 hJk_2 (fun u_4 H locs hpk_2 hSep hS hzk_2 => ?_)
  refine W.cs (cells' := 1) (slots' := 3) rfl rfl ?_
  have hSep : Sep G.1 clA (Fz F s.heap.size) [pts q1 (.inr (6, [.int (nI 0), .int (nI 0), .null, .null])), pts q2 (.inr (6, [.int sc, .int so, va_rf lr, .ref fl])), listA G fl (m9) (box G (bl)), listA G q_1 (nI 0) ([])] H := hSep
  refine s_putF (ci := 6) (v := .ref q_1) (ty := .object "java/util/List") (C := RX8) (T := TX8) (N := 4) hx hb hts in_X8 tyX8 tyX8_ok nmX8 hown hK hSep hS 0 rfl rfl 3 (by decide) (hts _ q508) (fun _ h9 => h9) rfl hnm rfl (by decide +kernel) rfl rfl (Nat.le_of_ble_eq_true rfl) dX8_init_12 (fun H locs hSep hS => ?_)
  have hSep : Sep G.1 clA (Fz F s.heap.size) [pts q1 (.inr (6, [.int (nI 0), .int (nI 0), .null, .ref q_1])), pts q2 (.inr (6, [.int sc, .int so, va_rf lr, .ref fl])), listA G fl (m9) (box G (bl)), listA G q_1 (nI 0) ([])] H := hSep
  refine lv_aload_n hx hb dX8_init_15 rfl (lv_at hl 0 rfl) ?_
  refine lv_aload_n hx hb dX8_init_16 rfl (lv_at hl 1 rfl) ?_
  refine va_get (D := G.1) (ci := 6) (v := .int sc) (C := RX8) (T := TX8) (N := 4) hx hb hts in_X8 hown hK (hSep.cel (k := 1) rfl) 0 rfl rfl 0 (by decide) (hts _ q499) (fun _ h9 => h9) rfl dX8_init_17 ?_
  refine s_put (ci := 6) (v := .int sc) (ty := .int) (C := RX8) (T := TX8) (N := 4) hx hb hts in_X8 tyX8 tyX8_ok nmX8 hown hK hSep hS 0 rfl rfl 0 (by decide) (hts _ q499) (fun _ h9 => h9) rfl (by decide +kernel) rfl rfl (Nat.le_of_ble_eq_true rfl) dX8_init_20 (fun H locs hSep hS => ?_)
  have hSep : Sep G.1 clA (Fz F s.heap.size) [pts q1 (.inr (6, [.int sc, .int (nI 0), .null, .ref q_1])), pts q2 (.inr (6, [.int sc, .int so, va_rf lr, .ref fl])), listA G fl (m9) (box G (bl)), listA G q_1 (nI 0) ([])] H := hSep
  refine lv_aload_n hx hb dX8_init_23 rfl (lv_at hl 0 rfl) ?_
  refine lv_aload_n hx hb dX8_init_24 rfl (lv_at hl 1 rfl) ?_
  refine va_get (D := G.1) (ci := 6) (v := .int so) (C := RX8) (T := TX8) (N := 4) hx hb hts in_X8 hown hK (hSep.cel (k := 1) rfl) 0 rfl rfl 1 (by decide) (hts _ q502) (fun _ h9 => h9) rfl dX8_init_25 ?_
  refine s_put (ci := 6) (v := .int so) (ty := .int) (C := RX8) (T := TX8) (N := 4) hx hb hts in_X8 tyX8 tyX8_ok nmX8 hown hK hSep hS 0 rfl rfl 1 (by decide) (hts _ q502) (fun _ h9 => h9) rfl (by decide +kernel) rfl rfl (Nat.le_of_ble_eq_true rfl) dX8_init_28 (fun H locs hSep hS => ?_)
  have hSep : Sep G.1 clA (Fz F s.heap.size) [pts q1 (.inr (6, [.int sc, .int so, .null, .ref q_1])), pts q2 (.inr (6, [.int sc, .int so, va_rf lr, .ref fl])), listA G fl (m9) (box G (bl)), listA G q_1 (nI 0) ([])] H := hSep
  refine lv_aload_n hx hb dX8_init_31 rfl (lv_at hl 0 rfl) ?_
  refine lv_aload_n hx hb dX8_init_32 rfl (lv_at hl 1 rfl) ?_
  refine va_get (D := G.1) (ci := 6) (v := va_rf lr) (C := RX8) (T := TX8) (N := 4) hx hb hts in_X8 hown hK (hSep.cel (k := 1) rfl) 0 rfl rfl 2 (by decide) (hts _ q505) (fun _ h9 => h9) rfl dX8_init_33 ?_
  refine s_put (ci := 6) (v := va_rf lr) (ty := .object "TaleDuel$Sentence") (C := RX8) (T := TX8) (N := 4) hx hb hts in_X8 tyX8 tyX8_ok nmX8 hown hK hSep hS 0 rfl rfl 2 (by decide) (hts _ q505) (fun _ h9 => h9) rfl (by decide +kernel) (by cases lr <;> rfl) (by cases lr <;> rfl) (Nat.le_of_ble_eq_true rfl) dX8_init_36 (fun H locs hSep hS => ?_)
  have hSep : Sep G.1 clA (Fz F s.heap.size) [pts q1 (.inr (6, [.int sc, .int so, va_rf lr, .ref q_1])), pts q2 (.inr (6, [.int sc, .int so, va_rf lr, .ref fl])), listA G fl (m9) (box G (bl)), listA G q_1 (nI 0) ([])] H := hSep
  refine lv_aload_n hx hb dX8_init_39 rfl (lv_at hl 1 rfl) ?_
  refine va_get (D := G.1) (ci := 6) (v := .ref fl) (C := RX8) (T := TX8) (N := 4) hx hb hts in_X8 hown hK (hSep.cel (k := 1) rfl) 0 rfl rfl 3 (by decide) (hts _ q508) (fun _ h9 => h9) rfl dX8_init_40 ?_
  obtain ⟨Fk_5, hFk_5, hPk_5, hJk_5⟩ := hSep.cut (Pc := [listA G fl (m9) ((box G bl))]) (Pr := [pts q1 (.inr (6, [.int sc, .int so, va_rf lr, .ref q_1])), pts q2 (.inr (6, [.int sc, .int so, va_rf lr, .ref fl])), listA G q_1 (nI 0) ([])]) (fun q h => Fz.new (Nat.le_trans hS.1 h)) [2] [0, 1, 3] rfl rfl rfl rfl (by decide)
  obtain ⟨fsob_6, hob_6⟩ := list_obj (hSep.hol (k := 2) rfl)
  refine c_r5 (va_runF (hK.1 10 _ rfl).2 (As := []) (rest := []) ⟨hx, hb, hml, hown, hts⟩ (m_J16_iterator l G Fk_5 H.size fl m9 (box G bl) ) (va_cwF 0 hts (lw_F q413 q417 q419 q63 q421) rfl rfl rfl (hE.2.2.1 (fw_ "java/util/ArrayList" "java/util/List" "iterator" "()Ljava/util/Iterator;") (by decide +kernel)) (by decide +kernel) ⟨Nat.le_of_ble_eq_true rfl, Nat.le_of_ble_eq_true rfl⟩) (sp_preV hE hS hFk_5 hPk_5 trivial (sp_recv (ci := 10) hK hob_6 rfl)) rfl rfl hl.1 rfl (lv_room (Nat.le_of_ble_eq_true rfl)) dX8_init_43 ⟨by first | exact Nat.le_of_ble_eq_true rfl | omega | (dsimp only; omega), by first | exact Nat.le_of_ble_eq_true rfl | omega | (dsimp only; omega)⟩) hS hFk_5 hJk_5 (fun u_8 r_7 H locs hpk_5 hSep hS hzk_5 => ?_)
  refine W.cs (cells' := 2) (slots' := 7) rfl rfl ?_
  have hSep : Sep G.1 clA (Fz F s.heap.size) [pts q1 (.inr (6, [.int sc, .int so, va_rf lr, .ref q_1])), pts q2 (.inr (6, [.int sc, .int so, va_rf lr, .ref fl])), listA G q_1 (nI 0) ([]), listA G fl (m9) ((box G bl)), pts r_7 (.inr (11, [.int (nI 0), .int (-1), .int m9, .ref fl]))] H := hSep
  refine lv_astore_n (lv' := [(2, .ref r_7), (0, .ref q1), (1, .ref q2)]) hx hb dX8_init_48 rfl hl (by decide) rfl (fun ls hl => ?_)
  have L49 : ∀ (fu : Nat) (k : Nat) (lr9 : Int32) (m3 : Int32) , bl.length - k < fu → (k ≤ bl.length) → ∀ (H : Heap) (locs : List Loc) (ls : Array Slot), Sep G.1 clA (Fz F s.heap.size) [pts q1 (.inr (6, [.int sc, .int so, va_rf lr, .ref q_1])), pts q2 (.inr (6, [.int sc, .int so, va_rf lr, .ref fl])), listA G q_1 (m3) (box G (bl.take k)), listA G fl (m9) ((box G bl)), pts r_7 (.inr (11, [.int (nI k), .int lr9, .int m9, .ref fl]))] H → va_S (Fz F s.heap.size) s.heap H locs → lv_has ls 4 [(2, .ref r_7), (0, .ref q1), (1, .ref q2)] → W p l e ({ frames := 6, cells := 7, slots := 57, locals := 127 } : Room) s m args below meth c H locs (2 + k) (7 + 10 * k) QQ (F0 m 49 ls []) := by
    intro fu
    induction fu with
    | zero => intro k lr9 m3 hm; exact absurd hm (Nat.not_lt_zero _)
    | succ fu ih49 =>
      intro k lr9 m3 hm49 hp49_0 H locs ls hSep hS hl
      refine lv_aload_n hx hb dX8_init_49 rfl (lv_at hl 0 rfl) ?_
      obtain ⟨Fk_9, hFk_9, hPk_9, hJk_9⟩ := hSep.cut (Pc := [pts r_7 (.inr (11, [.int (nI k), .int lr9, .int m9, .ref fl])), listA G fl (m9) ((box G bl))]) (Pr := [pts q1 (.inr (6, [.int sc, .int so, va_rf lr, .ref q_1])), pts q2 (.inr (6, [.int sc, .int so, va_rf lr, .ref fl])), listA G q_1 (m3) (box G (bl.take k))]) (fun q h => Fz.new (Nat.le_trans hS.1 h)) [4, 3] [0, 1, 2] rfl rfl rfl rfl (by decide)
      refine c_i5 (va_runF (hK.1 11 _ rfl).2 (As := []) (rest := []) ⟨hx, hb, hml, hown, hts⟩ (m_J12_hasNext l G Fk_9 H.size r_7 k lr9 fl m9 (box G bl) (by rw [box_len]; omega)) (va_cwF 0 hts (lw_F q442 q446 q448 q56 q450) rfl rfl rfl (hE.2.2.1 (fw_ "java/util/ArrayList$Itr" "java/util/Iterator" "hasNext" "()Z") (by decide +kernel)) (by decide +kernel) ⟨Nat.le_of_ble_eq_true rfl, Nat.le_of_ble_eq_true rfl⟩) (sp_preV hE hS hFk_9 hPk_9 trivial (sp_recv (ci := 11) hK (hSep.cel (k := 4) rfl) rfl)) rfl rfl hl.1 rfl (lv_room (Nat.le_of_ble_eq_true rfl)) dX8_init_50 ⟨by first | exact Nat.le_of_ble_eq_true rfl | omega | (dsimp only; omega), by first | exact Nat.le_of_ble_eq_true rfl | omega | (dsimp only; omega)⟩) hS hFk_9 hJk_9 (fun r_10 u_11 H locs hpk_9 hSep hS hzk_9 => ?_)
      obtain rfl : r_10 = (bI (decide (k < (box G bl).length))) := hpk_9
      have hSep : Sep G.1 clA (Fz F s.heap.size) [pts q1 (.inr (6, [.int sc, .int so, va_rf lr, .ref q_1])), pts q2 (.inr (6, [.int sc, .int so, va_rf lr, .ref fl])), listA G q_1 (m3) (box G (bl.take k)), pts r_7 (.inr (11, [.int (nI k), .int lr9, .int m9, .ref fl])), listA G fl (m9) ((box G bl))] H := hSep
      refine n_eq (y := (bI (decide (k < bl.length)))) (by rw [box_len]) ?_
      refine b_if_eq (tgt := 82) hx hb dX8_init_55 (by decide) (fun c55 => ?_) (fun c55 => ?_)
      · obtain rfl : k = bl.length := by have := of_decide_eq_false c55; omega
        rw [List.take_length] at hSep
        rw [hQ]
        exact r_v (u := ()) hx hb hr (trivial) (Sep.pick (Sep.close (hSep.close (P := tlrA G Z q1 sc so lt bl) (Pc := [pts q1 (.inr (6, [.int sc, .int so, va_rf lr, .ref q_1])), listA G q_1 (m3) (box G (bl))]) (Pr := [pts q2 (.inr (6, [.int sc, .int so, va_rf lr, .ref fl])), pts r_7 (.inr (11, [.int (nI bl.length), .int lr9, .int m9, .ref fl])), listA G fl (m9) ((box G bl))]) [0, 2] [1, 3, 4] rfl rfl rfl rfl (by decide) (fun w hw => tel_mk hlo hw)) (P := tlrA G Z q2 sc so lt bl) (Pc := [pts q2 (.inr (6, [.int sc, .int so, va_rf lr, .ref fl])), listA G fl (m9) ((box G bl))]) (Pr := [pts r_7 (.inr (11, [.int (nI bl.length), .int lr9, .int m9, .ref fl])), tlrA G (Z) q1 (sc) (so) (lt) (bl)]) [0, 2] [1, 3] rfl rfl rfl rfl (by decide) (fun w hw => tel_mk hlo hw)) [1, 2] rfl rfl) hS (by first | exact Nat.le_of_ble_eq_true rfl | omega | (dsimp only; omega)) (by first | exact Nat.le_of_ble_eq_true rfl | omega | (dsimp only; omega)) dX8_init_82 hlocks
      · have hk8 : k < bl.length := of_decide_eq_true c55
        refine lv_aload_n hx hb dX8_init_58 rfl (lv_at hl 0 rfl) ?_
        obtain ⟨Fk_12, hFk_12, hPk_12, hJk_12⟩ := hSep.cut (Pc := [pts r_7 (.inr (11, [.int (nI k), .int lr9, .int m9, .ref fl])), listA G fl (m9) ((box G bl))]) (Pr := [pts q1 (.inr (6, [.int sc, .int so, va_rf lr, .ref q_1])), pts q2 (.inr (6, [.int sc, .int so, va_rf lr, .ref fl])), listA G q_1 (m3) (box G (bl.take k))]) (fun q h => Fz.new (Nat.le_trans hS.1 h)) [3, 4] [0, 1, 2] rfl rfl rfl rfl (by decide)
        refine c_q5 (va_runF (hK.1 11 _ rfl).2 (As := []) (rest := []) ⟨hx, hb, hml, hown, hts⟩ (m_J12_next l G Fk_12 H.size r_7 k lr9 fl m9 (box G bl) (by rw [box_len]; omega)) (va_cwF 0 hts (lw_F q452 q455 q457 q56 q459) rfl rfl rfl (hE.2.2.1 (fw_ "java/util/ArrayList$Itr" "java/util/Iterator" "next" "()Ljava/lang/Object;") (by decide +kernel)) (by decide +kernel) ⟨Nat.le_of_ble_eq_true rfl, Nat.le_of_ble_eq_true rfl⟩) (sp_preV hE hS hFk_12 hPk_12 trivial (sp_recv (ci := 11) hK (hSep.cel (k := 3) rfl) rfl)) rfl rfl hl.1 rfl (lv_room (Nat.le_of_ble_eq_true rfl)) dX8_init_59 ⟨by first | exact Nat.le_of_ble_eq_true rfl | omega | (dsimp only; omega), by first | exact Nat.le_of_ble_eq_true rfl | omega | (dsimp only; omega)⟩) hS hFk_12 hJk_12 (fun r_13 u_14 H locs hpk_12 hSep hS hzk_12 => ?_)
        obtain rfl : r_13 = some ((box G bl).getD k 0) := hpk_12
        have hSep : Sep G.1 clA (Fz F s.heap.size) [pts q1 (.inr (6, [.int sc, .int so, va_rf lr, .ref q_1])), pts q2 (.inr (6, [.int sc, .int so, va_rf lr, .ref fl])), listA G q_1 (m3) (box G (bl.take k)), pts r_7 (.inr (11, [.int (nI (k + 1)), .int (nI k), .int m9, .ref fl])), listA G fl (m9) ((box G bl))] H := hSep
        have hel : elR G "java/lang/Integer" (G.2.2.1 (bl.getD k 0 + 128)) H := Or.inl ⟨rfl, _, by have := getD_lt hb18 (show k < bl.length by omega); omega, rfl⟩
        refine n_eqv (y := .ref (G.2.2.1 (bl.getD k 0 + 128))) (by rw [box_getD (by omega)]; rfl) ?_
        refine va_castS (nm := RJ23) hx hb hown (hts _ q464) (hK.1 12 _ rfl).2 (el_cell hE hS hel) dX8_init_64 ?_
        refine lv_astore_n (lv' := [(3, .ref (G.2.2.1 (bl.getD k 0 + 128))), (2, .ref r_7), (0, .ref q1), (1, .ref q2)]) hx hb dX8_init_67 rfl hl (by decide) rfl (fun ls hl => ?_)
        refine lv_aload_n hx hb dX8_init_68 rfl (lv_at hl 2 rfl) ?_
        refine va_get (D := G.1) (ci := 6) (v := .ref q_1) (C := RX8) (T := TX8) (N := 4) hx hb hts in_X8 hown hK (hSep.cel (k := 0) rfl) 0 rfl rfl 3 (by decide) (hts _ q508) (fun _ h9 => h9) rfl dX8_init_69 ?_
        refine lv_aload_n hx hb dX8_init_72 rfl (lv_at hl 0 rfl) ?_
        obtain ⟨Fk_15, hFk_15, hPk_15, hJk_15⟩ := hSep.cut (Pc := [listA G q_1 (m3) ((box G (bl.take k))), (pts q1 (.inr (6, [.int sc, .int so, va_rf lr, .ref q_1])))]) (Pr := [pts q2 (.inr (6, [.int sc, .int so, va_rf lr, .ref fl])), pts r_7 (.inr (11, [.int (nI (k + 1)), .int (nI k), .int m9, .ref fl])), listA G fl (m9) ((box G bl))]) (fun q h => Fz.new (Nat.le_trans hS.1 h)) [2, 0] [1, 3, 4] rfl rfl rfl rfl (by decide)
        obtain ⟨fsob_16, hob_16⟩ := list_obj (hSep.hol (k := 2) rfl)
        refine c_i5 (va_runF (hK.1 10 _ rfl).2 (As := [.ref (G.2.2.1 (bl.getD k 0 + 128))]) (rest := []) ⟨hx, hb, hml, hown, hts⟩ (m_J16_add l G Fk_15 H.size q_1 m3 (box G (bl.take k)) (G.2.2.1 (bl.getD k 0 + 128)) (pts q1 (.inr (6, [.int sc, .int so, va_rf lr, .ref q_1]))) ("java/lang/Integer") (fun H _ => Or.inl ⟨rfl, bl.getD k 0 + 128, by have := getD_lt hb18 (show k < bl.length by omega); omega, rfl⟩) (by rw [box_len, List.length_take]; omega)) (va_cwF 1 hts (lw_F q466 q469 q471 q63 q473) rfl rfl rfl (hE.2.2.1 (fw_ "java/util/ArrayList" "java/util/List" "add" "(Ljava/lang/Object;)Z") (by decide +kernel)) (by decide +kernel) ⟨Nat.le_of_ble_eq_true rfl, Nat.le_of_ble_eq_true rfl⟩) (sp_preV hE hS hFk_15 hPk_15 trivial (sp_recv (ci := 10) hK hob_16 rfl)) rfl rfl hl.1 rfl (lv_room (Nat.le_of_ble_eq_true rfl)) dX8_init_73 ⟨by first | exact Nat.le_of_ble_eq_true rfl | omega | (dsimp only; omega), by first | exact Nat.le_of_ble_eq_true rfl | omega | (dsimp only; omega)⟩) hS hFk_15 hJk_15 (fun r_17 u_18 H locs hpk_15 hSep hS hzk_15 => ?_)
        obtain rfl : r_17 = (bI true) := hpk_15
        have hSep : Sep G.1 clA (Fz F s.heap.size) [pts q2 (.inr (6, [.int sc, .int so, va_rf lr, .ref fl])), pts r_7 (.inr (11, [.int (nI (k + 1)), .int (nI k), .int m9, .ref fl])), listA G fl (m9) ((box G bl)), listA G q_1 (m3 + nI 1) ((box G (bl.take k)) ++ [(G.2.2.1 (bl.getD k 0 + 128))]), pts q1 (.inr (6, [.int sc, .int so, va_rf lr, .ref q_1]))] H := hSep
        rw [box_app, ← take_s (by omega)] at hSep
        refine lv_pop hx hb dX8_init_78 rfl ?_
        refine lv_goto (tgt := 49) hx hb dX8_init_79 (by decide) ?_
        refine W.widen (k := 2 + (k + 1)) (n := 7 + 10 * (k + 1)) (by omega) (by omega) ?_
        exact ih49 (k + 1) (nI k) (m3 + nI 1) (by omega) (by omega) _ _ _ (hSep.pick [4, 0, 3, 2, 1] rfl rfl) hS (lv_sub hl [1, 2, 3] rfl)
  refine W.widen (k := 2 + 0) (n := 7 + 10 * 0) (by omega) (by omega) ?_
  exact L49 (bl.length - 0 + 1) 0 (-1) (nI 0) (Nat.lt_succ_self _) (by omega) _ _ _ hSep hS (lv_sub hl [0, 1, 2] rfl)
