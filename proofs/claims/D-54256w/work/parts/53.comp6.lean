set_option maxRecDepth 100000
set_option maxHeartbeats 600000 in
set_option maxRecDepth 100000 in
theorem m_X7_init (l : Launch) (G : EVT) (F : Nat → Prop) (sz : Nat) (Z : List (Nat × List Nat)) (q1 : Nat)  : Met l yX7_init (ws_ yX7_init cX7_init 2 none) ({ frames := 4, cells := 1, slots := 3, locals := 94 } : Room) (SPc G F sz [.ref q1, .int (nI 6)] [pts q1 (.inr (5, [.null, .int (nI 0)]))] (fun _ => True)) (SQv G F sz (fun (u : Unit) => True) (fun (u : Unit) => [stoA G (Z) q1 ([])])) (1) (3) (Fz F sz) := by
  refine sp_of RX7 (by decide) rfl (Nat.le_of_ble_eq_true rfl) ?_
  intro p e s m args below meth c ls QQ hx hb hr hts hown hlocks hml hnm hsz hSep hΦ hE hS hl hQ
  subst hsz
  have hK := hE.1
  have hl : lv_has ls 2 [(0, .ref q1), (1, .int (nI 6))] := hl
  refine lv_aload_n hx hb dX7_init_0 rfl (lv_at hl 0 rfl) ?_
  refine W.objInit hx hb hown (hts _ q371) (hts _ q81) (hts _ q82) rfl (by rw [hml]; exact hl.1) rfl dX7_init_1 (Nat.le_of_ble_eq_true rfl) (Nat.le_of_ble_eq_true rfl) ?_
  refine W.eq (g2 := F0 m 4 ls []) rfl ?_
  refine lv_aload_n hx hb dX7_init_4 rfl (lv_at hl 0 rfl) ?_
  refine s_new (ci := 10) (fs := [.int (nI 0), .null, .int (nI 0)]) (C := RJ16) (T := TJ16) (N := 3) hx hb hts in_J16 tyJ16 tyJ16_ok hown (hts _ q372) (hts _ q373) (hts _ q63) hK hSep hS (fun q h => Fz.new h) rfl (fun j hj => by rcases (show j = 0 ∨ j = 1 ∨ j = 2 by omega) with rfl | rfl | rfl <;> rfl) (by first | exact Nat.le_of_ble_eq_true rfl | omega | (dsimp only; omega)) (by first | exact Nat.le_of_ble_eq_true rfl | omega | (dsimp only; omega)) dX7_init_5 (fun q_1 H hSep hS => ?_)
  have hSep : Sep G.1 clA (Fz F s.heap.size) [pts q1 (.inr (5, [.null, .int (nI 0)])), pts q_1 (.inr (10, [.int (nI 0), .null, .int (nI 0)]))] H := hSep
  refine W.cs (cells' := 1) (slots' := 3) rfl rfl ?_
  refine lv_dup hx hb dX7_init_8 rfl ?_
  obtain ⟨Fk_2, hFk_2, hPk_2, hJk_2⟩ := hSep.cut (Pc := [pts q_1 (.inr (10, [.int (nI 0), .null, .int (nI 0)]))]) (Pr := [pts q1 (.inr (5, [.null, .int (nI 0)]))]) (fun q h => Fz.new (Nat.le_trans hS.1 h)) [1] [0] rfl rfl rfl rfl (by decide)
  refine c_v (va_runI (As := []) (rest := [.ref q_1, .ref q1]) ⟨hx, hb, hml, hown, hts⟩ (m_J16_init l G Fk_2 H.size q_1 ) (cwI 0 hts (lw_meth q376) rfl rfl rfl (hts _ q63) (hts _ q374) (hts _ q375) rfl (by decide +kernel) ⟨Nat.le_of_ble_eq_true rfl, Nat.le_of_ble_eq_true rfl⟩) (sp_preS hE hS hFk_2 hPk_2 trivial) rfl rfl hl.1 rfl (lv_room (Nat.le_of_ble_eq_true rfl)) dX7_init_9 ⟨by first | exact Nat.le_of_ble_eq_true rfl | omega | (dsimp only; omega), by first | exact Nat.le_of_ble_eq_true rfl | omega | (dsimp only; omega)⟩) hS hFk_2 hJk_2 (fun u_4 H locs hpk_2 hSep hS hzk_2 => ?_)
  refine W.cs (cells' := 1) (slots' := 3) rfl rfl ?_
  have hSep : Sep G.1 clA (Fz F s.heap.size) [pts q1 (.inr (5, [.null, .int (nI 0)])), listA G q_1 (nI 0) ([])] H := hSep
  refine s_putF (ci := 5) (v := .ref q_1) (ty := .object "java/util/List") (C := RX7) (T := TX7) (N := 2) hx hb hts in_X7 tyX7 tyX7_ok nmX7 hown hK hSep hS 0 rfl rfl 0 (by decide) (hts _ q398) (fun _ h9 => h9) rfl hnm rfl (by decide +kernel) rfl rfl (Nat.le_of_ble_eq_true rfl) dX7_init_12 (fun H locs hSep hS => ?_)
  have hSep : Sep G.1 clA (Fz F s.heap.size) [pts q1 (.inr (5, [.ref q_1, .int (nI 0)])), listA G q_1 (nI 0) ([])] H := hSep
  refine lv_aload_n hx hb dX7_init_15 rfl (lv_at hl 0 rfl) ?_
  refine lv_iload_n hx hb dX7_init_16 rfl (lv_at hl 1 rfl) ?_
  refine s_putF (ci := 5) (v := .int (nI 6)) (ty := .int) (C := RX7) (T := TX7) (N := 2) hx hb hts in_X7 tyX7 tyX7_ok nmX7 hown hK hSep hS 0 rfl rfl 1 (by decide) (hts _ q399) (fun _ h9 => h9) rfl hnm rfl (by decide +kernel) rfl rfl (Nat.le_of_ble_eq_true rfl) dX7_init_17 (fun H locs hSep hS => ?_)
  have hSep : Sep G.1 clA (Fz F s.heap.size) [pts q1 (.inr (5, [.ref q_1, .int (nI 6)])), listA G q_1 (nI 0) ([])] H := hSep
  rw [hQ]
  exact r_v (u := ()) hx hb hr (trivial) (hSep.close (P := stoA G Z q1 []) (Pc := [pts q1 (.inr (5, [.ref q_1, .int (nI 6)])), listA G q_1 (nI 0) ([])]) (Pr := []) [0, 1] [] rfl rfl rfl rfl (by decide) (fun w hw => sto_mk ⟨rfl, fun k hk => absurd hk (Nat.not_lt_zero _)⟩ hw)) hS (by first | exact Nat.le_of_ble_eq_true rfl | omega | (dsimp only; omega)) (by first | exact Nat.le_of_ble_eq_true rfl | omega | (dsimp only; omega)) dX7_init_20 hlocks

set_option maxHeartbeats 600000 in
set_option maxRecDepth 100000 in
theorem m_X7_size (l : Launch) (G : EVT) (sz : Nat) (Z : List (Nat × List Nat)) (q1 : Nat) (lg : List (List Nat))  : Met l yX7_size (ws_ yX7_size cX7_size 1 (some .int)) ({ frames := 1, cells := 0, slots := 0, locals := 20 } : Room) (SPc G (fun _ => False) sz [.ref q1] [] (fun H => Hol G.1 clA (stoA G Z q1 lg) H)) (SQi G (fun _ => False) sz (fun (r : Int32) (u : Unit) => r = (nI lg.length)) (fun (u : Unit) => [])) (0) (0) (Fz (fun _ => False) sz) := by
  refine sp_of RX7 (by decide) rfl (Nat.le_of_ble_eq_true rfl) ?_
  intro p e s m args below meth c ls QQ hx hb hr hts hown hlocks hml hnm hsz hSep hΦ hE hS hl hQ
  subst hsz
  have hK := hE.1
  have hl : lv_has ls 1 [(0, .ref q1)] := hl
  obtain ⟨kl, m9, rs, hlo, hR2, hRL⟩ := sto_ro hΦ
  refine lv_aload_n hx hb dX7_size_0 rfl (lv_at hl 0 rfl) ?_
  refine va_get (D := G.1) (ci := 5) (v := .ref kl) (C := RX7) (T := TX7) (N := 2) hx hb hts in_X7 hown hK (ro0 hR2 hS) 0 rfl rfl 0 (by decide) (hts _ q398) (fun _ h9 => h9) rfl dX7_size_1 ?_
  obtain ⟨fs9, hob9⟩ := list_obj (ro1 hRL hS)
  have hFk_1 : ∀ q, Fz (fun _ => False) s.heap.size q → (Fz (fun _ => False) s.heap.size) q := fun q h => by rcases h with h | h; exact h.elim; exact Fz.new (Nat.le_trans hS.1 h)
  have hPk_1 : Sep G.1 clA (Fz (fun _ => False) s.heap.size) [] s.heap := sp_nil
  have hJk_1 := sp_nilJ (F := (fun _ => False)) hSep (fun _ => id) hFk_1
  refine c_i5 (va_runF (hK.1 10 _ rfl).2 (As := []) (rest := []) ⟨hx, hb, hml, hown, hts⟩ (m_J16_size l G s.heap.size kl m9 rs ) (va_cwF 0 hts (lw_F q551 q554 q556 q63 q558) rfl rfl rfl (hE.2.2.1 (fw_ "java/util/ArrayList" "java/util/List" "size" "()I") (by decide +kernel)) (by decide +kernel) ⟨Nat.le_of_ble_eq_true rfl, Nat.le_of_ble_eq_true rfl⟩) (sp_preV hE hS hFk_1 hPk_1 (ro1 hRL hS) (sp_recv (ci := 10) hK hob9 rfl)) rfl rfl hl.1 rfl (lv_room (Nat.le_of_ble_eq_true rfl)) dX7_size_4 ⟨by first | exact Nat.le_of_ble_eq_true rfl | omega | (dsimp only; omega), by first | exact Nat.le_of_ble_eq_true rfl | omega | (dsimp only; omega)⟩) hS hFk_1 hJk_1 (fun r_2 u_3 H locs hpk_1 hSep hS hzk_1 => ?_)
  obtain rfl : r_2 = (nI rs.length) := hpk_1
  refine W.cs (cells' := 0) (slots' := 0) rfl rfl ?_
  have hSep : Sep G.1 clA (Fz (fun _ => False) s.heap.size) [] H := hSep
  refine n_eq (y := (nI lg.length)) (by rw [hlo.1]) ?_
  rw [hQ]
  exact r_i (r := (nI lg.length)) (u := ()) hx hb hr (rfl) hSep hS (by first | exact Nat.le_of_ble_eq_true rfl | omega | (dsimp only; omega)) (by first | exact Nat.le_of_ble_eq_true rfl | omega | (dsimp only; omega)) dX7_size_9 hlocks

set_option maxHeartbeats 600000 in
set_option maxRecDepth 100000 in
theorem m_X7_get (l : Launch) (G : EVT) (sz : Nat) (Z : List (Nat × List Nat)) (q1 : Nat) (lg : List (List Nat)) (i1 : Nat) (hi : i1 < lg.length) : Met l yX7_get (ws_ yX7_get cX7_get 2 (some (.object "java/lang/CharSequence"))) ({ frames := 3, cells := 0, slots := 0, locals := 64 } : Room) (SPc G (fun _ => False) sz [.ref q1, .int (nI i1)] [] (fun H => Hol G.1 clA (stoA G Z q1 lg) H ∧ Hol G.1 clA (frozA G Z) H)) (SQq G (fun _ => False) sz (fun (r : Option Nat) (u : Nat) => r = some u ∧ ∃ C, (u, C) ∈ Z ∧ senOk C ∧ lg.getD i1 [] = tW C) (fun (u : Nat) => [])) (0) (0) (Fz (fun _ => False) sz) := by
  refine sp_of RX7 (by decide) rfl (Nat.le_of_ble_eq_true rfl) ?_
  intro p e s m args below meth c ls QQ hx hb hr hts hown hlocks hml hnm hsz hSep hΦ hE hS hl hQ
  subst hsz
  have hK := hE.1
  have hl : lv_has ls 2 [(0, .ref q1), (1, .int (nI i1))] := hl
  obtain ⟨hΦ1, hΦ2⟩ := hΦ
  obtain ⟨kl, m9, rs, hlo, hR2, hRL⟩ := sto_ro hΦ1
  obtain ⟨C9, hZ9, hs9, hl9⟩ := hlo.2 i1 (by rw [hlo.1]; exact hi)
  refine lv_aload_n hx hb dX7_get_0 rfl (lv_at hl 0 rfl) ?_
  refine va_get (D := G.1) (ci := 5) (v := .ref kl) (C := RX7) (T := TX7) (N := 2) hx hb hts in_X7 hown hK (ro0 hR2 hS) 0 rfl rfl 0 (by decide) (hts _ q398) (fun _ h9 => h9) rfl dX7_get_1 ?_
  refine lv_iload_n hx hb dX7_get_4 rfl (lv_at hl 1 rfl) ?_
  obtain ⟨fs9, hob9⟩ := list_obj (ro1 hRL hS)
  have hFk_1 : ∀ q, Fz (fun _ => False) s.heap.size q → (Fz (fun _ => False) s.heap.size) q := fun q h => by rcases h with h | h; exact h.elim; exact Fz.new (Nat.le_trans hS.1 h)
  have hPk_1 : Sep G.1 clA (Fz (fun _ => False) s.heap.size) [] s.heap := sp_nil
  have hJk_1 := sp_nilJ (F := (fun _ => False)) hSep (fun _ => id) hFk_1
  refine c_q5 (va_runF (hK.1 10 _ rfl).2 (As := [.int (nI i1)]) (rest := []) ⟨hx, hb, hml, hown, hts⟩ (m_J16_get l G s.heap.size kl m9 rs i1 (by rw [hlo.1]; exact hi)) (va_cwF 1 hts (lw_F q564 q567 q569 q63 q571) rfl rfl rfl (hE.2.2.1 (fw_ "java/util/ArrayList" "java/util/List" "get" "(I)Ljava/lang/Object;") (by decide +kernel)) (by decide +kernel) ⟨Nat.le_of_ble_eq_true rfl, Nat.le_of_ble_eq_true rfl⟩) (sp_preV hE hS hFk_1 hPk_1 (ro1 hRL hS) (sp_recv (ci := 10) hK hob9 rfl)) rfl rfl hl.1 rfl (lv_room (Nat.le_of_ble_eq_true rfl)) dX7_get_5 ⟨by first | exact Nat.le_of_ble_eq_true rfl | omega | (dsimp only; omega), by first | exact Nat.le_of_ble_eq_true rfl | omega | (dsimp only; omega)⟩) hS hFk_1 hJk_1 (fun r_2 u_3 H locs hpk_1 hSep hS hzk_1 => ?_)
  obtain rfl : r_2 = some (rs.getD i1 0) := hpk_1
  refine W.cs (cells' := 0) (slots' := 0) rfl rfl ?_
  have hSep : Sep G.1 clA (Fz (fun _ => False) s.heap.size) [] H := hSep
  obtain ⟨ch9, fC9, -, hvp⟩ := froz_get (ro1 hΦ2 hS) hZ9
  refine va_castY (C := RX3) (nm := "java/lang/CharSequence") hx hb hown (hts _ q582) (hE.2.1 _ q1780 rfl) (sp_recv (ci := 2) hK (hvp.sub [0] rfl) rfl) dX7_get_10 ?_
  rw [hQ]
  exact r_q (r := some (rs.getD i1 0)) (u := rs.getD i1 0) hx hb hr (Or.inl ⟨_, rfl⟩) (⟨rfl, C9, hZ9, hs9, hl9⟩) hSep hS (by first | exact Nat.le_of_ble_eq_true rfl | omega | (dsimp only; omega)) (by first | exact Nat.le_of_ble_eq_true rfl | omega | (dsimp only; omega)) dX7_get_13 hlocks

set_option maxHeartbeats 600000 in
set_option maxRecDepth 100000 in
theorem m_X7_add (l : Launch) (G : EVT) (F : Nat → Prop) (sz : Nat) (Z : List (Nat × List Nat)) (q1 : Nat) (lg : List (List Nat)) (r1 : Nat) (C1 : List Nat) (hZ : (r1, C1) ∈ Z) (hs : senOk C1) (hl6 : lg.length ≤ 6) : Met l yX7_add (ws_ yX7_add cX7_add 2 none) ({ frames := 5, cells := 1, slots := 10, locals := 107 } : Room) (SPc G F sz [.ref q1, .ref r1] [stoA G (Z) q1 (lg), frozA G Z] (fun _ => True)) (SQv G F sz (fun (u : Unit) => True) (fun (u : Unit) => [stoA G (Z) q1 (((tW C1 :: lg).take 6)), frozA G Z])) (1) (10) (Fz F sz) := by
  refine sp_of RX7 (by decide) rfl (Nat.le_of_ble_eq_true rfl) ?_
  intro p e s m args below meth c ls QQ hx hb hr hts hown hlocks hml hnm hsz hSep hΦ hE hS hl hQ
  subst hsz
  have hK := hE.1
  have hl : lv_has ls 2 [(0, .ref q1), (1, .ref r1)] := hl
  obtain ⟨kl, m9, rs, hlo, hSep⟩ := sto_un hSep (Pr := [frozA G Z]) (k := 0) rfl [1] rfl rfl (by decide)
  have hlc := hlo.cons hZ hs
  have hl9 := hlo.1
  refine lv_aload_n hx hb dX7_add_0 rfl (lv_at hl 0 rfl) ?_
  refine va_get (D := G.1) (ci := 5) (v := .ref kl) (C := RX7) (T := TX7) (N := 2) hx hb hts in_X7 hown hK (hSep.cel (k := 1) rfl) 0 rfl rfl 0 (by decide) (hts _ q398) (fun _ h9 => h9) rfl dX7_add_1 ?_
  refine lv_iconst (v := (nI 0)) hx hb dX7_add_4 (by decide) ?_
  refine lv_aload_n hx hb dX7_add_5 rfl (lv_at hl 1 rfl) ?_
  obtain ⟨Fk_1, hFk_1, hPk_1, hJk_1⟩ := hSep.cut (Pc := [listA G kl (m9) (rs), (frozA G Z)]) (Pr := [pts q1 (.inr (5, [.ref kl, .int (nI 6)]))]) (fun q h => Fz.new (Nat.le_trans hS.1 h)) [2, 0] [1] rfl rfl rfl rfl (by decide)
  obtain ⟨fsob_2, hob_2⟩ := list_obj (hSep.hol (k := 2) rfl)
  refine c_v5 (va_runF (hK.1 10 _ rfl).2 (As := [.int (nI 0), .ref r1]) (rest := []) ⟨hx, hb, hml, hown, hts⟩ (m_J16_add_3 l G Fk_1 s.heap.size kl m9 rs r1 (frozA G Z) ("TaleDuel$Sentence") (fun H h => hlc.el h) (by omega)) (va_cwF 2 hts (lw_F q589 q592 q594 q63 q596) rfl rfl rfl (hE.2.2.1 (fw_ "java/util/ArrayList" "java/util/List" "add" "(ILjava/lang/Object;)V") (by decide +kernel)) (by decide +kernel) ⟨Nat.le_of_ble_eq_true rfl, Nat.le_of_ble_eq_true rfl⟩) (sp_preV hE hS hFk_1 hPk_1 trivial (sp_recv (ci := 10) hK hob_2 rfl)) rfl rfl hl.1 rfl (lv_room (Nat.le_of_ble_eq_true rfl)) dX7_add_6 ⟨by first | exact Nat.le_of_ble_eq_true rfl | omega | (dsimp only; omega), by first | exact Nat.le_of_ble_eq_true rfl | omega | (dsimp only; omega)⟩) hS hFk_1 hJk_1 (fun u_4 H locs hpk_1 hSep hS hzk_1 => ?_)
  refine W.cs (cells' := 1) (slots' := 10) rfl rfl ?_
  have hSep : Sep G.1 clA (Fz F s.heap.size) [pts q1 (.inr (5, [.ref kl, .int (nI 6)])), listA G kl (m9 + nI 1) (r1 :: rs), frozA G Z] H := hSep
  refine lv_aload_n hx hb dX7_add_11 rfl (lv_at hl 0 rfl) ?_
  refine va_get (D := G.1) (ci := 5) (v := .ref kl) (C := RX7) (T := TX7) (N := 2) hx hb hts in_X7 hown hK (hSep.cel (k := 0) rfl) 0 rfl rfl 0 (by decide) (hts _ q398) (fun _ h9 => h9) rfl dX7_add_12 ?_
  have hFk_5 : ∀ q, Fz (fun _ => False) H.size q → (Fz F s.heap.size) q := fun q h => by rcases h with h | h; exact h.elim; exact Fz.new (Nat.le_trans hS.1 h)
  have hPk_5 : Sep G.1 clA (Fz (fun _ => False) H.size) [] H := sp_nil
  have hJk_5 := sp_nilJ (F := (fun _ => False)) hSep (fun _ => id) hFk_5
  obtain ⟨fsob_6, hob_6⟩ := list_obj (hSep.hol (k := 1) rfl)
  refine c_i5 (va_runF (hK.1 10 _ rfl).2 (As := []) (rest := []) ⟨hx, hb, hml, hown, hts⟩ (m_J16_size l G H.size kl (m9 + nI 1) (r1 :: rs) ) (va_cwF 0 hts (lw_F q551 q554 q556 q63 q558) rfl rfl rfl (hE.2.2.1 (fw_ "java/util/ArrayList" "java/util/List" "size" "()I") (by decide +kernel)) (by decide +kernel) ⟨Nat.le_of_ble_eq_true rfl, Nat.le_of_ble_eq_true rfl⟩) (sp_preV hE hS hFk_5 hPk_5 (hSep.hol (k := 1) rfl) (sp_recv (ci := 10) hK hob_6 rfl)) rfl rfl hl.1 rfl (lv_room (Nat.le_of_ble_eq_true rfl)) dX7_add_15 ⟨by first | exact Nat.le_of_ble_eq_true rfl | omega | (dsimp only; omega), by first | exact Nat.le_of_ble_eq_true rfl | omega | (dsimp only; omega)⟩) hS hFk_5 hJk_5 (fun r_7 u_8 H locs hpk_5 hSep hS hzk_5 => ?_)
  obtain rfl : r_7 = (nI ((r1 :: rs).length)) := hpk_5
  refine W.cs (cells' := 1) (slots' := 10) rfl rfl ?_
  have hSep : Sep G.1 clA (Fz F s.heap.size) [pts q1 (.inr (5, [.ref kl, .int (nI 6)])), listA G kl (m9 + nI 1) (r1 :: rs), frozA G Z] H := hSep
  refine n_eq (y := (nI (lg.length + 1))) (by rw [List.length_cons, hl9]) ?_
  refine lv_aload_n hx hb dX7_add_20 rfl (lv_at hl 0 rfl) ?_
  refine va_get (D := G.1) (ci := 5) (v := .int (nI 6)) (C := RX7) (T := TX7) (N := 2) hx hb hts in_X7 hown hK (hSep.cel (k := 0) rfl) 0 rfl rfl 1 (by decide) (hts _ q399) (fun _ h9 => h9) rfl dX7_add_21 ?_
  refine n_icmp_le (tgt := 41) hx hb (by omega) (by omega) dX7_add_24 (by decide) (fun c24 => ?_) (fun c24 => ?_)
  · rw [hQ]
    exact r_v (u := ()) hx hb hr (trivial) (Sep.pick (hSep.close (P := stoA G Z q1 ((tW C1 :: lg).take 6)) (Pc := [pts q1 (.inr (5, [.ref kl, .int (nI 6)])), listA G kl (m9 + nI 1) (r1 :: rs)]) (Pr := [frozA G Z]) [0, 1] [2] rfl rfl rfl rfl (by decide) (fun w hw => sto_mk (by first | (rw [List.take_of_length_le (by rw [List.length_cons]; omega)]; exact hlc) | exact hlc.cut (by rw [List.length_cons]; omega)) hw)) [1, 0] rfl rfl) hS (by first | exact Nat.le_of_ble_eq_true rfl | omega | (dsimp only; omega)) (by first | exact Nat.le_of_ble_eq_true rfl | omega | (dsimp only; omega)) dX7_add_41 hlocks
  · refine lv_aload_n hx hb dX7_add_27 rfl (lv_at hl 0 rfl) ?_
    refine va_get (D := G.1) (ci := 5) (v := .ref kl) (C := RX7) (T := TX7) (N := 2) hx hb hts in_X7 hown hK (hSep.cel (k := 0) rfl) 0 rfl rfl 0 (by decide) (hts _ q398) (fun _ h9 => h9) rfl dX7_add_28 ?_
    refine lv_aload_n hx hb dX7_add_31 rfl (lv_at hl 0 rfl) ?_
    refine va_get (D := G.1) (ci := 5) (v := .int (nI 6)) (C := RX7) (T := TX7) (N := 2) hx hb hts in_X7 hown hK (hSep.cel (k := 0) rfl) 0 rfl rfl 1 (by decide) (hts _ q399) (fun _ h9 => h9) rfl dX7_add_32 ?_
    obtain ⟨Fk_9, hFk_9, hPk_9, hJk_9⟩ := hSep.cut (Pc := [listA G kl ((m9 + nI 1)) ((r1 :: rs)), (frozA G Z)]) (Pr := [pts q1 (.inr (5, [.ref kl, .int (nI 6)]))]) (fun q h => Fz.new (Nat.le_trans hS.1 h)) [1, 2] [0] rfl rfl rfl rfl (by decide)
    obtain ⟨fsob_10, hob_10⟩ := list_obj (hSep.hol (k := 1) rfl)
    refine c_q5 (va_runF (hK.1 10 _ rfl).2 (As := [.int (nI 6)]) (rest := []) ⟨hx, hb, hml, hown, hts⟩ (m_J16_remove l G Fk_9 H.size kl (m9 + nI 1) (r1 :: rs) 6 (frozA G Z) ("TaleDuel$Sentence") (fun H h => hlc.el h) (by rw [List.length_cons]; omega)) (va_cwF 1 hts (lw_F q864 q867 q869 q63 q871) rfl rfl rfl (hE.2.2.1 (fw_ "java/util/ArrayList" "java/util/List" "remove" "(I)Ljava/lang/Object;") (by decide +kernel)) (by decide +kernel) ⟨Nat.le_of_ble_eq_true rfl, Nat.le_of_ble_eq_true rfl⟩) (sp_preV hE hS hFk_9 hPk_9 trivial (sp_recv (ci := 10) hK hob_10 rfl)) rfl rfl hl.1 rfl (lv_room (Nat.le_of_ble_eq_true rfl)) dX7_add_35 ⟨by first | exact Nat.le_of_ble_eq_true rfl | omega | (dsimp only; omega), by first | exact Nat.le_of_ble_eq_true rfl | omega | (dsimp only; omega)⟩) hS hFk_9 hJk_9 (fun r_11 u_12 H locs hpk_9 hSep hS hzk_9 => ?_)
    obtain rfl : r_11 = some ((r1 :: rs).getD 6 0) := hpk_9
    refine W.cs (cells' := 1) (slots' := 10) rfl rfl ?_
    have hSep : Sep G.1 clA (Fz F s.heap.size) [pts q1 (.inr (5, [.ref kl, .int (nI 6)])), listA G kl ((m9 + nI 1) + nI 1) ((r1 :: rs).eraseIdx 6), frozA G Z] H := hSep
    refine lv_pop hx hb dX7_add_40 rfl ?_
    rw [hQ]
    exact r_v (u := ()) hx hb hr (trivial) (Sep.pick (hSep.close (P := stoA G Z q1 ((tW C1 :: lg).take 6)) (Pc := [pts q1 (.inr (5, [.ref kl, .int (nI 6)])), listA G kl (m9 + nI 1 + nI 1) ((r1 :: rs).eraseIdx 6)]) (Pr := [frozA G Z]) [0, 1] [2] rfl rfl rfl rfl (by decide) (fun w hw => sto_mk (by first | (rw [List.take_of_length_le (by rw [List.length_cons]; omega)]; exact hlc) | exact hlc.cut (by rw [List.length_cons]; omega)) hw)) [1, 0] rfl rfl) hS (by first | exact Nat.le_of_ble_eq_true rfl | omega | (dsimp only; omega)) (by first | exact Nat.le_of_ble_eq_true rfl | omega | (dsimp only; omega)) dX7_add_41 hlocks
