set_option maxRecDepth 100000
set_option maxHeartbeats 600000 in
set_option maxRecDepth 100000 in
theorem m_J16_rangeCheckForAdd (l : Launch) (G : EVT) (sz : Nat) (q1 : Nat) (mm : Int32) (bb : Nat) (n1 : Nat) (i1 : Nat) (hi : i1 ≤ n1) (hn : n1 < 2147483648) : Met l yJ16_rangeCheckForAdd (ws_ yJ16_rangeCheckForAdd cJ16_rangeCheckForAdd 2 none) ({ frames := 0, cells := 0, slots := 0, locals := 0 } : Room) (SPc G (fun _ => False) sz [.ref q1, .int (nI i1)] [] (fun H => va_P G.1 clA [(q1, .inr (10, [.int mm, .ref bb, .int (nI n1)]))] H)) (SQv G (fun _ => False) sz (fun (u : Unit) => True) (fun (u : Unit) => [])) (0) (0) (Fz (fun _ => False) sz) := by
  refine sp_of RJ16 (by decide) rfl (Nat.le_of_ble_eq_true rfl) ?_
  intro p e s m args below meth c ls QQ hx hb hr hts hown hlocks hml hnm hsz hSep hΦ hE hS hl hQ
  subst hsz
  have hK := hE.1
  have hl : lv_has ls 2 [(0, .ref q1), (1, .int (nI i1))] := hl
  refine lv_iload_n hx hb dJ16_rangeCheckForAdd_0 rfl (lv_at hl 1 rfl) ?_
  refine lv_aload_n hx hb dJ16_rangeCheckForAdd_1 rfl (lv_at hl 0 rfl) ?_
  refine va_get (D := G.1) (ci := 10) (v := .int (nI n1)) (C := RJ16) (T := TJ16) (N := 3) hx hb hts in_J16 hown hK (ro0 hΦ hS) 0 rfl rfl 2 (by decide) (hts _ q386) (fun _ h9 => h9) rfl dJ16_rangeCheckForAdd_2 ?_
  refine n_icmp_gt (tgt := 12) hx hb (by omega) (by omega) dJ16_rangeCheckForAdd_5 (by decide) (fun c5 => ?_) (fun c5 => ?_)
  · exfalso; omega
  · refine lv_iload_n hx hb dJ16_rangeCheckForAdd_8 rfl (lv_at hl 1 rfl) ?_
    refine n_if_ge (tgt := 25) hx hb (by omega) dJ16_rangeCheckForAdd_9 (by decide) ?_
    rw [hQ]
    exact r_v (u := ()) hx hb hr (trivial) hSep hS (by first | exact Nat.le_of_ble_eq_true rfl | omega | (dsimp only; omega)) (by first | exact Nat.le_of_ble_eq_true rfl | omega | (dsimp only; omega)) dJ16_rangeCheckForAdd_25 hlocks

set_option maxHeartbeats 600000 in
set_option maxRecDepth 100000 in
theorem m_J16_add_3 (l : Launch) (G : EVT) (F : Nat → Prop) (sz : Nat) (q1 : Nat) (mm : Int32) (xs : List Nat) (e1 : Nat) (R : Asn) (Ce : String) (hR : ∀ H, Hol G.1 clA R H → ∀ y ∈ e1 :: xs, elR G Ce y H) (hxl : xs.length < 10) : Met l yJ16_add_3 (ws_ yJ16_add_3 cJ16_add_3 5 none) ({ frames := 4, cells := 1, slots := 10, locals := 83 } : Room) (SPc G F sz [.ref q1, .int (nI 0), .ref e1] [listA G q1 (mm) (xs), R] (fun _ => True)) (SQv G F sz (fun (u : Unit) => True) (fun (u : Unit) => [listA G q1 (mm + nI 1) (e1 :: xs), R])) (1) (10) (Fz F sz) := by
  refine sp_of RJ16 (by decide) rfl (Nat.le_of_ble_eq_true rfl) ?_
  intro p e s m args below meth c ls QQ hx hb hr hts hown hlocks hml hnm hsz hSep hΦ hE hS hl hQ
  subst hsz
  have hK := hE.1
  have hl : lv_has ls 5 [(0, .ref q1), (1, .int (nI 0)), (2, .ref e1)] := hl
  rcases list_cs hSep (Pr := [R]) (k := 0) rfl [1] rfl rfl (by decide) with ⟨rfl, hSep2⟩ | ⟨b, f, ⟨hx1, hx2⟩, hSep2⟩
  · have hSep := hSep2
    have hSep : Sep G.1 clA (Fz F s.heap.size) [R, pts q1 (.inr (10, [.int mm, .ref G.2.2.2.1, .int (nI 0)]))] s.heap := hSep
    refine lv_aload_n hx hb dJ16_add_3_0 rfl (lv_at hl 0 rfl) ?_
    refine lv_iload_n hx hb dJ16_add_3_1 rfl (lv_at hl 1 rfl) ?_
    have hFk_1 : ∀ q, Fz (fun _ => False) s.heap.size q → (Fz F s.heap.size) q := fun q h => by rcases h with h | h; exact h.elim; exact Fz.new (Nat.le_trans hS.1 h)
    have hPk_1 : Sep G.1 clA (Fz (fun _ => False) s.heap.size) [] s.heap := sp_nil
    have hJk_1 := sp_nilJ (F := (fun _ => False)) hSep (fun _ => id) hFk_1
    refine c_v (va_runV (As := [.int (nI 0)]) (rest := []) ⟨hx, hb, hml, hown, hts⟩ (m_J16_rangeCheckForAdd l G s.heap.size q1 mm G.2.2.2.1 0 0 (by first | assumption | omega) (by first | assumption | omega)) (cwV 1 hts (lw_V q597 q599 qs7 q63 q600) rfl rfl rfl (by decide +kernel) ⟨Nat.le_of_ble_eq_true rfl, Nat.le_of_ble_eq_true rfl⟩) (sp_preV hE hS hFk_1 hPk_1 (hSep.cel (k := 1) rfl) (sp_recv (ci := 10) hK (hSep.cel (k := 1) rfl) rfl)) rfl rfl hl.1 rfl (lv_room (Nat.le_of_ble_eq_true rfl)) dJ16_add_3_2 ⟨by first | exact Nat.le_of_ble_eq_true rfl | omega | (dsimp only; omega), by first | exact Nat.le_of_ble_eq_true rfl | omega | (dsimp only; omega)⟩) hS hFk_1 hJk_1 (fun u_3 H locs hpk_1 hSep hS hzk_1 => ?_)
    refine W.cs (cells' := 0) (slots' := 0) rfl rfl ?_
    have hSep : Sep G.1 clA (Fz F s.heap.size) [R, pts q1 (.inr (10, [.int mm, .ref G.2.2.2.1, .int (nI 0)]))] H := hSep
    refine lv_aload_n hx hb dJ16_add_3_5 rfl (lv_at hl 0 rfl) ?_
    refine lv_dup hx hb dJ16_add_3_6 rfl ?_
    refine va_get (D := G.1) (ci := 10) (v := .int mm) (C := RJ16) (T := TJ16) (N := 3) hx hb hts in_J16 hown hK (hSep.cel (k := 1) rfl) 0 rfl rfl 0 (by decide) (hts _ q390) (fun x h9 => u_same (hts _ q389) x h9) rfl dJ16_add_3_7 ?_
    refine lv_iconst (v := (nI 1)) hx hb dJ16_add_3_10 (by decide) ?_
    refine lv_iadd hx hb dJ16_add_3_11 ?_
    refine s_put (ci := 10) (v := .int (mm + (nI 1))) (ty := .int) (C := RJ16) (T := TJ16) (N := 3) hx hb hts in_J16 tyJ16 tyJ16_ok nmJ16 hown hK hSep hS 1 rfl rfl 0 (by decide) (hts _ q390) (fun x h9 => u_same (hts _ q389) x h9) rfl (by decide +kernel) rfl rfl (Nat.le_of_ble_eq_true rfl) dJ16_add_3_12 (fun H locs hSep hS => ?_)
    have hSep : Sep G.1 clA (Fz F s.heap.size) [R, pts q1 (.inr (10, [.int (mm + (nI 1)), .ref G.2.2.2.1, .int (nI 0)]))] H := hSep
    refine lv_aload_n hx hb dJ16_add_3_15 rfl (lv_at hl 0 rfl) ?_
    refine va_get (D := G.1) (ci := 10) (v := .int (nI 0)) (C := RJ16) (T := TJ16) (N := 3) hx hb hts in_J16 hown hK (hSep.cel (k := 1) rfl) 0 rfl rfl 2 (by decide) (hts _ q386) (fun _ h9 => h9) rfl dJ16_add_3_16 ?_
    refine lv_dup hx hb dJ16_add_3_19 rfl ?_
    refine lv_istore_n (lv' := [(3, .int (nI 0)), (0, .ref q1), (1, .int (nI 0)), (2, .ref e1)]) hx hb dJ16_add_3_20 rfl hl (by decide) rfl (fun ls hl => ?_)
    refine lv_aload_n hx hb dJ16_add_3_21 rfl (lv_at hl 1 rfl) ?_
    refine va_get (D := G.1) (ci := 10) (v := .ref G.2.2.2.1) (C := RJ16) (T := TJ16) (N := 3) hx hb hts in_J16 hown hK (hSep.cel (k := 1) rfl) 0 rfl rfl 1 (by decide) (hts _ q383) (fun _ h9 => h9) rfl dJ16_add_3_22 ?_
    refine lv_dup hx hb dJ16_add_3_25 rfl ?_
    refine lv_astore (lv' := [(4, .ref G.2.2.2.1), (3, .int (nI 0)), (0, .ref q1), (1, .int (nI 0)), (2, .ref e1)]) hx hb dJ16_add_3_26 hl (by decide) rfl (fun ls hl => ?_)
    refine va_tlen (v := nI 0) hx hb hE.2.2.2.2.1 hS rfl dJ16_add_3_28 ?_
    refine n_icmp_ne (tgt := 38) hx hb (by omega) (by omega) dJ16_add_3_29 (by decide) (fun c29 => ?_) (fun c29 => ?_)
    · exfalso; omega
    · refine lv_aload_n hx hb dJ16_add_3_32 rfl (lv_at hl 2 rfl) ?_
      obtain ⟨Fk_4, hFk_4, hPk_4, hJk_4⟩ := hSep.cut (Pc := [pts q1 (.inr (10, [.int (mm + (nI 1)), .ref G.2.2.2.1, .int (nI 0)]))]) (Pr := [R]) (fun q h => Fz.new (Nat.le_trans hS.1 h)) [1] [0] rfl rfl rfl rfl (by decide)
      refine c_r (va_runV (As := []) (rest := []) ⟨hx, hb, hml, hown, hts⟩ (m_J16_grow l G Fk_4 H.size q1 (mm + (nI 1)) ) (cwV 0 hts (lw_V q478 q480 qs5 q63 q481) rfl rfl rfl (by decide +kernel) ⟨Nat.le_of_ble_eq_true rfl, Nat.le_of_ble_eq_true rfl⟩) (sp_preV hE hS hFk_4 hPk_4 trivial (sp_recv (ci := 10) hK (hSep.cel (k := 1) rfl) rfl)) rfl rfl hl.1 rfl (lv_room (Nat.le_of_ble_eq_true rfl)) dJ16_add_3_33 ⟨by first | exact Nat.le_of_ble_eq_true rfl | omega | (dsimp only; omega), by first | exact Nat.le_of_ble_eq_true rfl | omega | (dsimp only; omega)⟩) hS hFk_4 hJk_4 (fun u_6 r_5 H locs hpk_4 hSep hS hzk_4 => ?_)
      refine W.cs (cells' := 1) (slots' := 10) rfl rfl ?_
      have hSep : Sep G.1 clA (Fz F s.heap.size) [R, pts q1 (.inr (10, [.int (mm + (nI 1)), .ref r_5, .int (nI 0)])), pts r_5 (.inl (G.2.1 4, 10, .inr (.inr (.inr (.inr (fun _ => none))))))] H := hSep
      refine lv_astore (lv' := [(4, .ref r_5), (3, .int (nI 0)), (0, .ref q1), (1, .int (nI 0)), (2, .ref e1)]) hx hb dJ16_add_3_36 hl (by decide) rfl (fun ls hl => ?_)
      refine lv_aload hx hb dJ16_add_3_38 (lv_at hl 0 rfl) ?_
      refine lv_iload_n hx hb dJ16_add_3_40 rfl (lv_at hl 3 rfl) ?_
      refine lv_aload hx hb dJ16_add_3_41 (lv_at hl 0 rfl) ?_
      refine lv_iload_n hx hb dJ16_add_3_43 rfl (lv_at hl 3 rfl) ?_
      refine lv_iconst (v := (nI 1)) hx hb dJ16_add_3_44 (by decide) ?_
      refine n_iadd hx hb dJ16_add_3_45 ?_
      refine lv_iload_n hx hb dJ16_add_3_46 rfl (lv_at hl 1 rfl) ?_
      refine lv_iload_n hx hb dJ16_add_3_47 rfl (lv_at hl 3 rfl) ?_
      refine n_isub hx hb (by omega) dJ16_add_3_48 ?_
      have hel := hR _ (hSep.hol (k := 0) rfl)
      refine s_copyq (C := Ce) (sp := 0) (dp := 0 + 1) (n := 0 - 0) hx hb (hml.trans hl.1.symm) hown (hts _ q862) (hts _ q344) (hts _ q343) (hts _ q59) hK hSep hS 2 rfl 4 rfl (by omega) (by omega) (by omega) (fun i hi => absurd hi (Nat.not_lt_zero _)) ((el_asg hE (hel e1 List.mem_cons_self))) (Nat.le_of_ble_eq_true rfl) (Nat.le_of_ble_eq_true rfl) dJ16_add_3_49 (fun H locs hSep hS => ?_)
      have hSep : Sep G.1 clA (Fz F s.heap.size) [R, pts q1 (.inr (10, [.int (mm + (nI 1)), .ref r_5, .int (nI 0)])), pts r_5 (.inl (G.2.1 4, 10, .inr (.inr (.inr (.inr (va_cpy (fun _ => none) (fun _ => none) 0 (0 + 1) (0 - 0)))))))] H := hSep
      have hel := hR _ (hSep.hol (k := 0) rfl)
      refine lv_aload hx hb dJ16_add_3_52 (lv_at hl 0 rfl) ?_
      refine lv_iload_n hx hb dJ16_add_3_54 rfl (lv_at hl 3 rfl) ?_
      refine lv_aload_n hx hb dJ16_add_3_55 rfl (lv_at hl 4 rfl) ?_
      refine n_aast (i := 0) hx hb hK hSep hS 2 rfl 4 rfl (el_cell hE hS (hel e1 List.mem_cons_self)) (el_asg hE (hel e1 List.mem_cons_self)) (by omega) (by omega) dJ16_add_3_56 (fun H locs hSep hS => ?_)
      have hSep : Sep G.1 clA (Fz F s.heap.size) [R, pts q1 (.inr (10, [.int (mm + (nI 1)), .ref r_5, .int (nI 0)])), pts r_5 (.inl (G.2.1 4, 10, .inr (.inr (.inr (.inr (va_up (va_cpy (fun _ => none) (fun _ => none) 0 (0 + 1) (0 - 0)) 0 (some e1)))))))] H := hSep
      refine lv_aload_n hx hb dJ16_add_3_57 rfl (lv_at hl 2 rfl) ?_
      refine lv_iload_n hx hb dJ16_add_3_58 rfl (lv_at hl 1 rfl) ?_
      refine lv_iconst (v := (nI 1)) hx hb dJ16_add_3_59 (by decide) ?_
      refine n_iadd hx hb dJ16_add_3_60 ?_
      refine s_put (ci := 10) (v := .int (nI (0 + 1))) (ty := .int) (C := RJ16) (T := TJ16) (N := 3) hx hb hts in_J16 tyJ16 tyJ16_ok nmJ16 hown hK hSep hS 1 rfl rfl 2 (by decide) (hts _ q386) (fun _ h9 => h9) rfl (by decide +kernel) rfl rfl (Nat.le_of_ble_eq_true rfl) dJ16_add_3_61 (fun H locs hSep hS => ?_)
      have hSep : Sep G.1 clA (Fz F s.heap.size) [R, pts q1 (.inr (10, [.int (mm + (nI 1)), .ref r_5, .int (nI (0 + 1))])), pts r_5 (.inl (G.2.1 4, 10, .inr (.inr (.inr (.inr (va_up (va_cpy (fun _ => none) (fun _ => none) 0 (0 + 1) (0 - 0)) 0 (some e1)))))))] H := hSep
      rw [hQ]
      exact r_v (u := ()) hx hb hr (trivial) (Sep.pick (hSep.close (P := listA G q1 (mm + nI 1) (e1 :: [])) (Pc := [pts q1 (.inr (10, [.int (mm + (nI 1)), .ref r_5, .int (nI (0 + 1))])), pts r_5 (.inl (G.2.1 4, 10, .inr (.inr (.inr (.inr (va_up (va_cpy (fun _ => none) (fun _ => none) 0 (0 + 1) (0 - 0)) 0 (some e1)))))))]) (Pr := [R]) [1, 2] [0] rfl rfl rfl rfl (by decide) (fun w hw => list_b (by simp) (by first | (simp; done) | (simp; omega)) (cpy_cons (f := fun _ => none) (xs := []) (fun k hk => absurd hk (Nat.not_lt_zero _)) rfl) hw)) [1, 0] rfl rfl) hS (by first | exact Nat.le_of_ble_eq_true rfl | omega | (dsimp only; omega)) (by first | exact Nat.le_of_ble_eq_true rfl | omega | (dsimp only; omega)) dJ16_add_3_64 hlocks
  · have hSep := hSep2
    have hSep : Sep G.1 clA (Fz F s.heap.size) [R, pts q1 (.inr (10, [.int mm, .ref b, .int (nI xs.length)])), pts b (.inl (G.2.1 4, 10, .inr (.inr (.inr (.inr f)))))] s.heap := hSep
    refine lv_aload_n hx hb dJ16_add_3_0 rfl (lv_at hl 0 rfl) ?_
    refine lv_iload_n hx hb dJ16_add_3_1 rfl (lv_at hl 1 rfl) ?_
    have hFk_7 : ∀ q, Fz (fun _ => False) s.heap.size q → (Fz F s.heap.size) q := fun q h => by rcases h with h | h; exact h.elim; exact Fz.new (Nat.le_trans hS.1 h)
    have hPk_7 : Sep G.1 clA (Fz (fun _ => False) s.heap.size) [] s.heap := sp_nil
    have hJk_7 := sp_nilJ (F := (fun _ => False)) hSep (fun _ => id) hFk_7
    refine c_v (va_runV (As := [.int (nI 0)]) (rest := []) ⟨hx, hb, hml, hown, hts⟩ (m_J16_rangeCheckForAdd l G s.heap.size q1 mm b xs.length 0 (by first | assumption | omega) (by first | assumption | omega)) (cwV 1 hts (lw_V q597 q599 qs7 q63 q600) rfl rfl rfl (by decide +kernel) ⟨Nat.le_of_ble_eq_true rfl, Nat.le_of_ble_eq_true rfl⟩) (sp_preV hE hS hFk_7 hPk_7 (hSep.cel (k := 1) rfl) (sp_recv (ci := 10) hK (hSep.cel (k := 1) rfl) rfl)) rfl rfl hl.1 rfl (lv_room (Nat.le_of_ble_eq_true rfl)) dJ16_add_3_2 ⟨by first | exact Nat.le_of_ble_eq_true rfl | omega | (dsimp only; omega), by first | exact Nat.le_of_ble_eq_true rfl | omega | (dsimp only; omega)⟩) hS hFk_7 hJk_7 (fun u_9 H locs hpk_7 hSep hS hzk_7 => ?_)
    refine W.cs (cells' := 0) (slots' := 0) rfl rfl ?_
    have hSep : Sep G.1 clA (Fz F s.heap.size) [R, pts q1 (.inr (10, [.int mm, .ref b, .int (nI xs.length)])), pts b (.inl (G.2.1 4, 10, .inr (.inr (.inr (.inr f)))))] H := hSep
    refine lv_aload_n hx hb dJ16_add_3_5 rfl (lv_at hl 0 rfl) ?_
    refine lv_dup hx hb dJ16_add_3_6 rfl ?_
    refine va_get (D := G.1) (ci := 10) (v := .int mm) (C := RJ16) (T := TJ16) (N := 3) hx hb hts in_J16 hown hK (hSep.cel (k := 1) rfl) 0 rfl rfl 0 (by decide) (hts _ q390) (fun x h9 => u_same (hts _ q389) x h9) rfl dJ16_add_3_7 ?_
    refine lv_iconst (v := (nI 1)) hx hb dJ16_add_3_10 (by decide) ?_
    refine lv_iadd hx hb dJ16_add_3_11 ?_
    refine s_put (ci := 10) (v := .int (mm + (nI 1))) (ty := .int) (C := RJ16) (T := TJ16) (N := 3) hx hb hts in_J16 tyJ16 tyJ16_ok nmJ16 hown hK hSep hS 1 rfl rfl 0 (by decide) (hts _ q390) (fun x h9 => u_same (hts _ q389) x h9) rfl (by decide +kernel) rfl rfl (Nat.le_of_ble_eq_true rfl) dJ16_add_3_12 (fun H locs hSep hS => ?_)
    have hSep : Sep G.1 clA (Fz F s.heap.size) [R, pts q1 (.inr (10, [.int (mm + (nI 1)), .ref b, .int (nI xs.length)])), pts b (.inl (G.2.1 4, 10, .inr (.inr (.inr (.inr f)))))] H := hSep
    refine lv_aload_n hx hb dJ16_add_3_15 rfl (lv_at hl 0 rfl) ?_
    refine va_get (D := G.1) (ci := 10) (v := .int (nI xs.length)) (C := RJ16) (T := TJ16) (N := 3) hx hb hts in_J16 hown hK (hSep.cel (k := 1) rfl) 0 rfl rfl 2 (by decide) (hts _ q386) (fun _ h9 => h9) rfl dJ16_add_3_16 ?_
    refine lv_dup hx hb dJ16_add_3_19 rfl ?_
    refine lv_istore_n (lv' := [(3, .int (nI xs.length)), (0, .ref q1), (1, .int (nI 0)), (2, .ref e1)]) hx hb dJ16_add_3_20 rfl hl (by decide) rfl (fun ls hl => ?_)
    refine lv_aload_n hx hb dJ16_add_3_21 rfl (lv_at hl 1 rfl) ?_
    refine va_get (D := G.1) (ci := 10) (v := .ref b) (C := RJ16) (T := TJ16) (N := 3) hx hb hts in_J16 hown hK (hSep.cel (k := 1) rfl) 0 rfl rfl 1 (by decide) (hts _ q383) (fun _ h9 => h9) rfl dJ16_add_3_22 ?_
    refine lv_dup hx hb dJ16_add_3_25 rfl ?_
    refine lv_astore (lv' := [(4, .ref b), (3, .int (nI xs.length)), (0, .ref q1), (1, .int (nI 0)), (2, .ref e1)]) hx hb dJ16_add_3_26 hl (by decide) rfl (fun ls hl => ?_)
    refine va_alen (v := nI 10) hx hb hK (hSep.cel (k := 2) rfl) 0 4 rfl rfl rfl dJ16_add_3_28 ?_
    refine n_icmp_ne (tgt := 38) hx hb (by omega) (by omega) dJ16_add_3_29 (by decide) (fun c29 => ?_) (fun c29 => ?_)
    · refine lv_aload hx hb dJ16_add_3_38 (lv_at hl 0 rfl) ?_
      refine lv_iload_n hx hb dJ16_add_3_40 rfl (lv_at hl 3 rfl) ?_
      refine lv_aload hx hb dJ16_add_3_41 (lv_at hl 0 rfl) ?_
      refine lv_iload_n hx hb dJ16_add_3_43 rfl (lv_at hl 3 rfl) ?_
      refine lv_iconst (v := (nI 1)) hx hb dJ16_add_3_44 (by decide) ?_
      refine n_iadd hx hb dJ16_add_3_45 ?_
      refine lv_iload_n hx hb dJ16_add_3_46 rfl (lv_at hl 1 rfl) ?_
      refine lv_iload_n hx hb dJ16_add_3_47 rfl (lv_at hl 3 rfl) ?_
      refine n_isub hx hb (by omega) dJ16_add_3_48 ?_
      have hel := hR _ (hSep.hol (k := 0) rfl)
      refine s_copyq (C := Ce) (sp := 0) (dp := 0 + 1) (n := xs.length - 0) hx hb (hml.trans hl.1.symm) hown (hts _ q862) (hts _ q344) (hts _ q343) (hts _ q59) hK hSep hS 2 rfl 4 rfl (by omega) (by omega) (by omega) (fun i hi y hy => el_cell hE hS (hel y (List.mem_cons_of_mem _ (by have h9 := hx2 (0 + i) (by omega); rw [hy] at h9; cases h9; exact getD_mem (by omega))))) ((el_asg hE (hel e1 List.mem_cons_self))) (Nat.le_of_ble_eq_true rfl) (Nat.le_of_ble_eq_true rfl) dJ16_add_3_49 (fun H locs hSep hS => ?_)
      have hSep : Sep G.1 clA (Fz F s.heap.size) [R, pts q1 (.inr (10, [.int (mm + (nI 1)), .ref b, .int (nI xs.length)])), pts b (.inl (G.2.1 4, 10, .inr (.inr (.inr (.inr (va_cpy f f 0 (0 + 1) (xs.length - 0)))))))] H := hSep
      have hel := hR _ (hSep.hol (k := 0) rfl)
      refine lv_aload hx hb dJ16_add_3_52 (lv_at hl 0 rfl) ?_
      refine lv_iload_n hx hb dJ16_add_3_54 rfl (lv_at hl 3 rfl) ?_
      refine lv_aload_n hx hb dJ16_add_3_55 rfl (lv_at hl 4 rfl) ?_
      refine n_aast (i := 0) hx hb hK hSep hS 2 rfl 4 rfl (el_cell hE hS (hel e1 List.mem_cons_self)) (el_asg hE (hel e1 List.mem_cons_self)) (by omega) (by omega) dJ16_add_3_56 (fun H locs hSep hS => ?_)
      have hSep : Sep G.1 clA (Fz F s.heap.size) [R, pts q1 (.inr (10, [.int (mm + (nI 1)), .ref b, .int (nI xs.length)])), pts b (.inl (G.2.1 4, 10, .inr (.inr (.inr (.inr (va_up (va_cpy f f 0 (0 + 1) (xs.length - 0)) 0 (some e1)))))))] H := hSep
      refine lv_aload_n hx hb dJ16_add_3_57 rfl (lv_at hl 2 rfl) ?_
      refine lv_iload_n hx hb dJ16_add_3_58 rfl (lv_at hl 1 rfl) ?_
      refine lv_iconst (v := (nI 1)) hx hb dJ16_add_3_59 (by decide) ?_
      refine n_iadd hx hb dJ16_add_3_60 ?_
      refine s_put (ci := 10) (v := .int (nI (xs.length + 1))) (ty := .int) (C := RJ16) (T := TJ16) (N := 3) hx hb hts in_J16 tyJ16 tyJ16_ok nmJ16 hown hK hSep hS 1 rfl rfl 2 (by decide) (hts _ q386) (fun _ h9 => h9) rfl (by decide +kernel) rfl rfl (Nat.le_of_ble_eq_true rfl) dJ16_add_3_61 (fun H locs hSep hS => ?_)
      have hSep : Sep G.1 clA (Fz F s.heap.size) [R, pts q1 (.inr (10, [.int (mm + (nI 1)), .ref b, .int (nI (xs.length + 1))])), pts b (.inl (G.2.1 4, 10, .inr (.inr (.inr (.inr (va_up (va_cpy f f 0 (0 + 1) (xs.length - 0)) 0 (some e1)))))))] H := hSep
      rw [hQ]
      exact r_v (u := ()) hx hb hr (trivial) (Sep.pick (hSep.close (P := listA G q1 (mm + nI 1) (e1 :: xs)) (Pc := [pts q1 (.inr (10, [.int (mm + (nI 1)), .ref b, .int (nI (xs.length + 1))])), pts b (.inl (G.2.1 4, 10, .inr (.inr (.inr (.inr (va_up (va_cpy f f 0 (0 + 1) (xs.length - 0)) 0 (some e1)))))))]) (Pr := [R]) [1, 2] [0] rfl rfl rfl rfl (by decide) (fun w hw => list_b (by simp) (by first | (simp; done) | (simp; omega)) (cpy_cons hx2 (by omega)) hw)) [1, 0] rfl rfl) hS (by first | exact Nat.le_of_ble_eq_true rfl | omega | (dsimp only; omega)) (by first | exact Nat.le_of_ble_eq_true rfl | omega | (dsimp only; omega)) dJ16_add_3_64 hlocks
    · exfalso; omega

set_option maxHeartbeats 600000 in
set_option maxRecDepth 100000 in
theorem m_J16_elementData (l : Launch) (G : EVT) (sz : Nat) (q1 : Nat) (mm : Int32) (xs : List Nat) (b : Nat) (f : Nat → Option Nat) (i1 : Nat) (hx1 : xs.length ≤ 10) (hx2 : ∀ k, k < xs.length → f k = some (xs.getD k 0)) (hi : i1 < xs.length) : Met l yJ16_elementData (ws_ yJ16_elementData cJ16_elementData 2 (some (.object "java/lang/Object"))) ({ frames := 0, cells := 0, slots := 0, locals := 0 } : Room) (SPc G (fun _ => False) sz [.ref q1, .int (nI i1)] [] (fun H => va_P G.1 clA [(q1, .inr (10, [.int mm, .ref b, .int (nI xs.length)])), (b, .inl (G.2.1 4, 10, .inr (.inr (.inr (.inr f)))))] H)) (SQq G (fun _ => False) sz (fun (r : Option Nat) (u : Unit) => r = some (xs.getD i1 0)) (fun (u : Unit) => [])) (0) (0) (Fz (fun _ => False) sz) := by
  refine sp_of RJ16 (by decide) rfl (Nat.le_of_ble_eq_true rfl) ?_
  intro p e s m args below meth c ls QQ hx hb hr hts hown hlocks hml hnm hsz hSep hΦ hE hS hl hQ
  subst hsz
  have hK := hE.1
  have hl : lv_has ls 2 [(0, .ref q1), (1, .int (nI i1))] := hl
  refine lv_aload_n hx hb dJ16_elementData_0 rfl (lv_at hl 0 rfl) ?_
  refine va_get (D := G.1) (ci := 10) (v := .ref b) (C := RJ16) (T := TJ16) (N := 3) hx hb hts in_J16 hown hK (ro0 hΦ hS) 0 rfl rfl 1 (by decide) (hts _ q383) (fun _ h9 => h9) rfl dJ16_elementData_1 ?_
  refine lv_iload_n hx hb dJ16_elementData_4 rfl (lv_at hl 1 rfl) ?_
  refine n_aald (i := i1) hx hb hK ((ro0 hΦ hS).sub [1] rfl) 4 rfl (by omega) (by omega) dJ16_elementData_5 ?_
  refine n_eqv (y := va_rf (some (xs.getD i1 0))) (congrArg va_rf (hx2 i1 hi)) ?_
  rw [hQ]
  exact r_q (r := some (xs.getD i1 0)) (u := ()) hx hb hr (Or.inl ⟨_, rfl⟩) (rfl) hSep hS (by first | exact Nat.le_of_ble_eq_true rfl | omega | (dsimp only; omega)) (by first | exact Nat.le_of_ble_eq_true rfl | omega | (dsimp only; omega)) dJ16_elementData_6 hlocks

set_option maxHeartbeats 600000 in
set_option maxRecDepth 100000 in
theorem m_J16_size (l : Launch) (G : EVT) (sz : Nat) (q1 : Nat) (mm : Int32) (xs : List Nat)  : Met l yJ16_size (ws_ yJ16_size cJ16_size 1 (some .int)) ({ frames := 0, cells := 0, slots := 0, locals := 0 } : Room) (SPc G (fun _ => False) sz [.ref q1] [] (fun H => Hol G.1 clA (listA G q1 mm xs) H)) (SQi G (fun _ => False) sz (fun (r : Int32) (u : Unit) => r = (nI xs.length)) (fun (u : Unit) => [])) (0) (0) (Fz (fun _ => False) sz) := by
  refine sp_of RJ16 (by decide) rfl (Nat.le_of_ble_eq_true rfl) ?_
  intro p e s m args below meth c ls QQ hx hb hr hts hown hlocks hml hnm hsz hSep hΦ hE hS hl hQ
  subst hsz
  have hK := hE.1
  have hl : lv_has ls 1 [(0, .ref q1)] := hl
  rcases list_ro hΦ with ⟨rfl, hR2⟩ | ⟨b, f, ⟨hx1, hx2⟩, hR2⟩
  · refine lv_aload_n hx hb dJ16_size_0 rfl (lv_at hl 0 rfl) ?_
    refine va_get (D := G.1) (ci := 10) (v := .int (nI 0)) (C := RJ16) (T := TJ16) (N := 3) hx hb hts in_J16 hown hK (ro0 hR2 hS) 0 rfl rfl 2 (by decide) (hts _ q386) (fun _ h9 => h9) rfl dJ16_size_1 ?_
    rw [hQ]
    exact r_i (r := (nI 0)) (u := ()) hx hb hr (rfl) hSep hS (by first | exact Nat.le_of_ble_eq_true rfl | omega | (dsimp only; omega)) (by first | exact Nat.le_of_ble_eq_true rfl | omega | (dsimp only; omega)) dJ16_size_4 hlocks
  · refine lv_aload_n hx hb dJ16_size_0 rfl (lv_at hl 0 rfl) ?_
    refine va_get (D := G.1) (ci := 10) (v := .int (nI xs.length)) (C := RJ16) (T := TJ16) (N := 3) hx hb hts in_J16 hown hK (ro0 hR2 hS) 0 rfl rfl 2 (by decide) (hts _ q386) (fun _ h9 => h9) rfl dJ16_size_1 ?_
    rw [hQ]
    exact r_i (r := (nI xs.length)) (u := ()) hx hb hr (rfl) hSep hS (by first | exact Nat.le_of_ble_eq_true rfl | omega | (dsimp only; omega)) (by first | exact Nat.le_of_ble_eq_true rfl | omega | (dsimp only; omega)) dJ16_size_4 hlocks

set_option maxHeartbeats 600000 in
set_option maxRecDepth 100000 in
theorem m_J16_get (l : Launch) (G : EVT) (sz : Nat) (q1 : Nat) (mm : Int32) (xs : List Nat) (i1 : Nat) (hi : i1 < xs.length) : Met l yJ16_get (ws_ yJ16_get cJ16_get 2 (some (.object "java/lang/Object"))) ({ frames := 2, cells := 0, slots := 0, locals := 43 } : Room) (SPc G (fun _ => False) sz [.ref q1, .int (nI i1)] [] (fun H => Hol G.1 clA (listA G q1 mm xs) H)) (SQq G (fun _ => False) sz (fun (r : Option Nat) (u : Unit) => r = some (xs.getD i1 0)) (fun (u : Unit) => [])) (0) (0) (Fz (fun _ => False) sz) := by
  refine sp_of RJ16 (by decide) rfl (Nat.le_of_ble_eq_true rfl) ?_
  intro p e s m args below meth c ls QQ hx hb hr hts hown hlocks hml hnm hsz hSep hΦ hE hS hl hQ
  subst hsz
  have hK := hE.1
  have hl : lv_has ls 2 [(0, .ref q1), (1, .int (nI i1))] := hl
  rcases list_ro hΦ with ⟨rfl, hR2⟩ | ⟨b, f, ⟨hx1, hx2⟩, hR2⟩
  · exact absurd hi (Nat.not_lt_zero _)
  · refine lv_iload_n hx hb dJ16_get_0 rfl (lv_at hl 1 rfl) ?_
    refine lv_aload_n hx hb dJ16_get_1 rfl (lv_at hl 0 rfl) ?_
    refine va_get (D := G.1) (ci := 10) (v := .int (nI xs.length)) (C := RJ16) (T := TJ16) (N := 3) hx hb hts in_J16 hown hK (ro0 hR2 hS) 0 rfl rfl 2 (by decide) (hts _ q386) (fun _ h9 => h9) rfl dJ16_get_2 ?_
    have hFk_1 : ∀ q, Fz (fun _ => False) s.heap.size q → (Fz (fun _ => False) s.heap.size) q := fun q h => by rcases h with h | h; exact h.elim; exact Fz.new (Nat.le_trans hS.1 h)
    have hPk_1 : Sep G.1 clA (Fz (fun _ => False) s.heap.size) [] s.heap := sp_nil
    have hJk_1 := sp_nilJ (F := (fun _ => False)) hSep (fun _ => id) hFk_1
    refine c_i (va_runS (As := [.int (nI i1), .int (nI xs.length)]) (rest := []) ⟨hx, hb, hml, hown, hts⟩ (m_J7_checkIndex l G s.heap.size i1 xs.length (by first | assumption | omega) (by first | assumption | omega)) (va_cwS 2 hts (lw_S q572 q573 q51 q574) rfl rfl rfl (by decide +kernel) ⟨Nat.le_of_ble_eq_true rfl, Nat.le_of_ble_eq_true rfl⟩) (sp_preS hE hS hFk_1 hPk_1 trivial) rfl rfl hl.1 rfl (lv_room (Nat.le_of_ble_eq_true rfl)) dJ16_get_5 ⟨by first | exact Nat.le_of_ble_eq_true rfl | omega | (dsimp only; omega), by first | exact Nat.le_of_ble_eq_true rfl | omega | (dsimp only; omega)⟩) hS hFk_1 hJk_1 (fun r_2 u_3 H locs hpk_1 hSep hS hzk_1 => ?_)
    obtain rfl : r_2 = (nI i1) := hpk_1
    refine W.cs (cells' := 0) (slots' := 0) rfl rfl ?_
    have hSep : Sep G.1 clA (Fz (fun _ => False) s.heap.size) [] H := hSep
    refine lv_pop hx hb dJ16_get_8 rfl ?_
    refine lv_aload_n hx hb dJ16_get_9 rfl (lv_at hl 0 rfl) ?_
    refine lv_iload_n hx hb dJ16_get_10 rfl (lv_at hl 1 rfl) ?_
    have hFk_4 : ∀ q, Fz (fun _ => False) H.size q → (Fz (fun _ => False) s.heap.size) q := fun q h => by rcases h with h | h; exact h.elim; exact Fz.new (Nat.le_trans hS.1 h)
    have hPk_4 : Sep G.1 clA (Fz (fun _ => False) H.size) [] H := sp_nil
    have hJk_4 := sp_nilJ (F := (fun _ => False)) hSep (fun _ => id) hFk_4
    refine c_q (va_runV (As := [.int (nI i1)]) (rest := []) ⟨hx, hb, hml, hown, hts⟩ (m_J16_elementData l G H.size q1 mm xs b f i1 (by first | assumption | omega) (by first | assumption | omega) (by first | assumption | omega)) (cwV 1 hts (lw_V q578 q579 q580 q63 q581) rfl rfl rfl (by decide +kernel) ⟨Nat.le_of_ble_eq_true rfl, Nat.le_of_ble_eq_true rfl⟩) (sp_preV hE hS hFk_4 hPk_4 (va_P.app ((ro0 hR2 hS).sub [0] rfl) ((ro0 hR2 hS).sub [1] rfl)) (sp_recv (ci := 10) hK ((ro0 hR2 hS).sub [0] rfl) rfl)) rfl rfl hl.1 rfl (lv_room (Nat.le_of_ble_eq_true rfl)) dJ16_get_11 ⟨by first | exact Nat.le_of_ble_eq_true rfl | omega | (dsimp only; omega), by first | exact Nat.le_of_ble_eq_true rfl | omega | (dsimp only; omega)⟩) hS hFk_4 hJk_4 (fun r_5 u_6 H locs hpk_4 hSep hS hzk_4 => ?_)
    obtain rfl : r_5 = some (xs.getD i1 0) := hpk_4
    refine W.cs (cells' := 0) (slots' := 0) rfl rfl ?_
    have hSep : Sep G.1 clA (Fz (fun _ => False) s.heap.size) [] H := hSep
    rw [hQ]
    exact r_q (r := some (xs.getD i1 0)) (u := ()) hx hb hr (Or.inl ⟨_, rfl⟩) (rfl) hSep hS (by first | exact Nat.le_of_ble_eq_true rfl | omega | (dsimp only; omega)) (by first | exact Nat.le_of_ble_eq_true rfl | omega | (dsimp only; omega)) dJ16_get_14 hlocks

set_option maxHeartbeats 600000 in
set_option maxRecDepth 100000 in
theorem m_J16_fastRemove (l : Launch) (G : EVT) (F : Nat → Prop) (sz : Nat) (q1 : Nat) (mm : Int32) (xs : List Nat) (b : Nat) (f : Nat → Option Nat) (i1 : Nat) (R : Asn) (Ce : String) (hR : ∀ H, Hol G.1 clA R H → ∀ y ∈ xs, elR G Ce y H) (hx1 : xs.length ≤ 10) (hx2 : ∀ k, k < xs.length → f k = some (xs.getD k 0)) (hi : i1 < xs.length) : Met l yJ16_fastRemove (ws_ yJ16_fastRemove cJ16_fastRemove 4 none) ({ frames := 1, cells := 0, slots := 0, locals := 40 } : Room) (SPc G F sz [.ref q1, .ref b, .int (nI i1)] [pts q1 (.inr (10, [.int mm, .ref b, .int (nI xs.length)])), pts b (.inl (G.2.1 4, 10, .inr (.inr (.inr (.inr f))))), R] (fun _ => True)) (SQv G F sz (fun (u : (Nat → Option Nat)) => ∀ k, k < (xs.eraseIdx i1).length → u k = some ((xs.eraseIdx i1).getD k 0)) (fun (u : (Nat → Option Nat)) => [pts q1 (.inr (10, [.int (mm + nI 1), .ref b, .int (nI (xs.length - 1))])), pts b (.inl (G.2.1 4, 10, .inr (.inr (.inr (.inr u))))), R])) (0) (0) (Fz F sz) := by
  refine sp_of RJ16 (by decide) rfl (Nat.le_of_ble_eq_true rfl) ?_
  intro p e s m args below meth c ls QQ hx hb hr hts hown hlocks hml hnm hsz hSep hΦ hE hS hl hQ
  subst hsz
  have hK := hE.1
  have hl : lv_has ls 4 [(0, .ref q1), (1, .ref b), (2, .int (nI i1))] := hl
  refine lv_aload_n hx hb dJ16_fastRemove_0 rfl (lv_at hl 0 rfl) ?_
  refine lv_dup hx hb dJ16_fastRemove_1 rfl ?_
  refine va_get (D := G.1) (ci := 10) (v := .int mm) (C := RJ16) (T := TJ16) (N := 3) hx hb hts in_J16 hown hK (hSep.cel (k := 0) rfl) 0 rfl rfl 0 (by decide) (hts _ q390) (fun x h9 => u_same (hts _ q389) x h9) rfl dJ16_fastRemove_2 ?_
  refine lv_iconst (v := (nI 1)) hx hb dJ16_fastRemove_5 (by decide) ?_
  refine lv_iadd hx hb dJ16_fastRemove_6 ?_
  refine s_put (ci := 10) (v := .int (mm + (nI 1))) (ty := .int) (C := RJ16) (T := TJ16) (N := 3) hx hb hts in_J16 tyJ16 tyJ16_ok nmJ16 hown hK hSep hS 0 rfl rfl 0 (by decide) (hts _ q390) (fun x h9 => u_same (hts _ q389) x h9) rfl (by decide +kernel) rfl rfl (Nat.le_of_ble_eq_true rfl) dJ16_fastRemove_7 (fun H locs hSep hS => ?_)
  have hSep : Sep G.1 clA (Fz F s.heap.size) [pts q1 (.inr (10, [.int (mm + (nI 1)), .ref b, .int (nI xs.length)])), pts b (.inl (G.2.1 4, 10, .inr (.inr (.inr (.inr f))))), R] H := hSep
  refine lv_aload_n hx hb dJ16_fastRemove_10 rfl (lv_at hl 0 rfl) ?_
  refine va_get (D := G.1) (ci := 10) (v := .int (nI xs.length)) (C := RJ16) (T := TJ16) (N := 3) hx hb hts in_J16 hown hK (hSep.cel (k := 0) rfl) 0 rfl rfl 2 (by decide) (hts _ q386) (fun _ h9 => h9) rfl dJ16_fastRemove_11 ?_
  refine lv_iconst (v := (nI 1)) hx hb dJ16_fastRemove_14 (by decide) ?_
  refine n_isub hx hb (by omega) dJ16_fastRemove_15 ?_
  refine lv_dup hx hb dJ16_fastRemove_16 rfl ?_
  refine lv_istore_n (lv' := [(3, .int (nI (xs.length - 1))), (0, .ref q1), (1, .ref b), (2, .int (nI i1))]) hx hb dJ16_fastRemove_17 rfl hl (by decide) rfl (fun ls hl => ?_)
  refine lv_iload_n hx hb dJ16_fastRemove_18 rfl (lv_at hl 3 rfl) ?_
  refine n_icmp_le (tgt := 34) hx hb (by omega) (by omega) dJ16_fastRemove_19 (by decide) (fun c19 => ?_) (fun c19 => ?_)
  · refine lv_aload_n hx hb dJ16_fastRemove_34 rfl (lv_at hl 2 rfl) ?_
    refine lv_aload_n hx hb dJ16_fastRemove_35 rfl (lv_at hl 1 rfl) ?_
    refine lv_iload_n hx hb dJ16_fastRemove_36 rfl (lv_at hl 0 rfl) ?_
    refine lv_dup_x1 hx hb dJ16_fastRemove_37 rfl rfl ?_
    refine s_put (ci := 10) (v := .int (nI (xs.length - 1))) (ty := .int) (C := RJ16) (T := TJ16) (N := 3) hx hb hts in_J16 tyJ16 tyJ16_ok nmJ16 hown hK hSep hS 0 rfl rfl 2 (by decide) (hts _ q386) (fun _ h9 => h9) rfl (by decide +kernel) rfl rfl (Nat.le_of_ble_eq_true rfl) dJ16_fastRemove_38 (fun H locs hSep hS => ?_)
    have hSep : Sep G.1 clA (Fz F s.heap.size) [pts q1 (.inr (10, [.int (mm + (nI 1)), .ref b, .int (nI (xs.length - 1))])), pts b (.inl (G.2.1 4, 10, .inr (.inr (.inr (.inr f))))), R] H := hSep
    refine lv_null hx hb dJ16_fastRemove_41 ?_
    refine n_aastN (i := xs.length - 1) hx hb hK hSep hS 1 rfl 4 rfl (by omega) (by omega) dJ16_fastRemove_42 (fun H locs hSep hS => ?_)
    have hSep : Sep G.1 clA (Fz F s.heap.size) [pts q1 (.inr (10, [.int (mm + (nI 1)), .ref b, .int (nI (xs.length - 1))])), pts b (.inl (G.2.1 4, 10, .inr (.inr (.inr (.inr (va_up f (xs.length - 1) none)))))), R] H := hSep
    rw [hQ]
    exact r_v (u := va_up f (xs.length - 1) none) hx hb hr (by first | exact cpy_del hx2 hi (by omega) _ rfl | exact del_last hx2 (by omega) (by omega) _ rfl) hSep hS (by first | exact Nat.le_of_ble_eq_true rfl | omega | (dsimp only; omega)) (by first | exact Nat.le_of_ble_eq_true rfl | omega | (dsimp only; omega)) dJ16_fastRemove_43 hlocks
  · refine lv_aload_n hx hb dJ16_fastRemove_22 rfl (lv_at hl 2 rfl) ?_
    refine lv_iload_n hx hb dJ16_fastRemove_23 rfl (lv_at hl 3 rfl) ?_
    refine lv_iconst (v := (nI 1)) hx hb dJ16_fastRemove_24 (by decide) ?_
    refine n_iadd hx hb dJ16_fastRemove_25 ?_
    refine lv_aload_n hx hb dJ16_fastRemove_26 rfl (lv_at hl 2 rfl) ?_
    refine lv_iload_n hx hb dJ16_fastRemove_27 rfl (lv_at hl 3 rfl) ?_
    refine lv_iload_n hx hb dJ16_fastRemove_28 rfl (lv_at hl 0 rfl) ?_
    refine lv_iload_n hx hb dJ16_fastRemove_29 rfl (lv_at hl 3 rfl) ?_
    refine n_isub hx hb (by omega) dJ16_fastRemove_30 ?_
    have hel := hR _ (hSep.hol (k := 2) rfl)
    refine s_copyq (C := Ce) (sp := i1 + 1) (dp := i1) (n := (xs.length - 1) - i1) hx hb (hml.trans hl.1.symm) hown (hts _ q862) (hts _ q344) (hts _ q343) (hts _ q59) hK hSep hS 1 rfl 4 rfl (by omega) (by omega) (by omega) (fun i hi y hy => el_cell hE hS (hel y (by have h9 := hx2 (i1 + 1 + i) (by omega); rw [hy] at h9; cases h9; exact getD_mem (by omega)))) ((el_asg hE (hel (xs.getD i1 0) (getD_mem hi)))) (Nat.le_of_ble_eq_true rfl) (Nat.le_of_ble_eq_true rfl) dJ16_fastRemove_31 (fun H locs hSep hS => ?_)
    have hSep : Sep G.1 clA (Fz F s.heap.size) [pts q1 (.inr (10, [.int (mm + (nI 1)), .ref b, .int (nI xs.length)])), pts b (.inl (G.2.1 4, 10, .inr (.inr (.inr (.inr (va_cpy f f (i1 + 1) i1 ((xs.length - 1) - i1))))))), R] H := hSep
    refine lv_aload_n hx hb dJ16_fastRemove_34 rfl (lv_at hl 2 rfl) ?_
    refine lv_aload_n hx hb dJ16_fastRemove_35 rfl (lv_at hl 1 rfl) ?_
    refine lv_iload_n hx hb dJ16_fastRemove_36 rfl (lv_at hl 0 rfl) ?_
    refine lv_dup_x1 hx hb dJ16_fastRemove_37 rfl rfl ?_
    refine s_put (ci := 10) (v := .int (nI (xs.length - 1))) (ty := .int) (C := RJ16) (T := TJ16) (N := 3) hx hb hts in_J16 tyJ16 tyJ16_ok nmJ16 hown hK hSep hS 0 rfl rfl 2 (by decide) (hts _ q386) (fun _ h9 => h9) rfl (by decide +kernel) rfl rfl (Nat.le_of_ble_eq_true rfl) dJ16_fastRemove_38 (fun H locs hSep hS => ?_)
    have hSep : Sep G.1 clA (Fz F s.heap.size) [pts q1 (.inr (10, [.int (mm + (nI 1)), .ref b, .int (nI (xs.length - 1))])), pts b (.inl (G.2.1 4, 10, .inr (.inr (.inr (.inr (va_cpy f f (i1 + 1) i1 ((xs.length - 1) - i1))))))), R] H := hSep
    refine lv_null hx hb dJ16_fastRemove_41 ?_
    refine n_aastN (i := xs.length - 1) hx hb hK hSep hS 1 rfl 4 rfl (by omega) (by omega) dJ16_fastRemove_42 (fun H locs hSep hS => ?_)
    have hSep : Sep G.1 clA (Fz F s.heap.size) [pts q1 (.inr (10, [.int (mm + (nI 1)), .ref b, .int (nI (xs.length - 1))])), pts b (.inl (G.2.1 4, 10, .inr (.inr (.inr (.inr (va_up (va_cpy f f (i1 + 1) i1 ((xs.length - 1) - i1)) (xs.length - 1) none)))))), R] H := hSep
    rw [hQ]
    exact r_v (u := va_up (va_cpy f f (i1 + 1) i1 ((xs.length - 1) - i1)) (xs.length - 1) none) hx hb hr (by first | exact cpy_del hx2 hi (by omega) _ rfl | exact del_last hx2 (by omega) (by omega) _ rfl) hSep hS (by first | exact Nat.le_of_ble_eq_true rfl | omega | (dsimp only; omega)) (by first | exact Nat.le_of_ble_eq_true rfl | omega | (dsimp only; omega)) dJ16_fastRemove_43 hlocks

set_option maxHeartbeats 600000 in
set_option maxRecDepth 100000 in
theorem m_J16_remove (l : Launch) (G : EVT) (F : Nat → Prop) (sz : Nat) (q1 : Nat) (mm : Int32) (xs : List Nat) (i1 : Nat) (R : Asn) (Ce : String) (hR : ∀ H, Hol G.1 clA R H → ∀ y ∈ xs, elR G Ce y H) (hi : i1 < xs.length) : Met l yJ16_remove (ws_ yJ16_remove cJ16_remove 4 (some (.object "java/lang/Object"))) ({ frames := 2, cells := 0, slots := 0, locals := 63 } : Room) (SPc G F sz [.ref q1, .int (nI i1)] [listA G q1 (mm) (xs), R] (fun _ => True)) (SQq G F sz (fun (r : Option Nat) (u : Unit) => r = some (xs.getD i1 0)) (fun (u : Unit) => [listA G q1 (mm + nI 1) (xs.eraseIdx i1), R])) (0) (0) (Fz F sz) := by
  refine sp_of RJ16 (by decide) rfl (Nat.le_of_ble_eq_true rfl) ?_
  intro p e s m args below meth c ls QQ hx hb hr hts hown hlocks hml hnm hsz hSep hΦ hE hS hl hQ
  subst hsz
  have hK := hE.1
  have hl : lv_has ls 4 [(0, .ref q1), (1, .int (nI i1))] := hl
  rcases list_cs hSep (Pr := [R]) (k := 0) rfl [1] rfl rfl (by decide) with ⟨rfl, hSep2⟩ | ⟨b, f, ⟨hx1, hx2⟩, hSep2⟩
  · have hSep := hSep2
    exact absurd hi (Nat.not_lt_zero _)
  · have hSep := hSep2
    have hSep : Sep G.1 clA (Fz F s.heap.size) [R, pts q1 (.inr (10, [.int mm, .ref b, .int (nI xs.length)])), pts b (.inl (G.2.1 4, 10, .inr (.inr (.inr (.inr f)))))] s.heap := hSep
    refine lv_iload_n hx hb dJ16_remove_0 rfl (lv_at hl 1 rfl) ?_
    refine lv_aload_n hx hb dJ16_remove_1 rfl (lv_at hl 0 rfl) ?_
    refine va_get (D := G.1) (ci := 10) (v := .int (nI xs.length)) (C := RJ16) (T := TJ16) (N := 3) hx hb hts in_J16 hown hK (hSep.cel (k := 1) rfl) 0 rfl rfl 2 (by decide) (hts _ q386) (fun _ h9 => h9) rfl dJ16_remove_2 ?_
    have hFk_1 : ∀ q, Fz (fun _ => False) s.heap.size q → (Fz F s.heap.size) q := fun q h => by rcases h with h | h; exact h.elim; exact Fz.new (Nat.le_trans hS.1 h)
    have hPk_1 : Sep G.1 clA (Fz (fun _ => False) s.heap.size) [] s.heap := sp_nil
    have hJk_1 := sp_nilJ (F := (fun _ => False)) hSep (fun _ => id) hFk_1
    refine c_i (va_runS (As := [.int (nI i1), .int (nI xs.length)]) (rest := []) ⟨hx, hb, hml, hown, hts⟩ (m_J7_checkIndex l G s.heap.size i1 xs.length (by first | assumption | omega) (by first | assumption | omega)) (va_cwS 2 hts (lw_S q572 q573 q51 q574) rfl rfl rfl (by decide +kernel) ⟨Nat.le_of_ble_eq_true rfl, Nat.le_of_ble_eq_true rfl⟩) (sp_preS hE hS hFk_1 hPk_1 trivial) rfl rfl hl.1 rfl (lv_room (Nat.le_of_ble_eq_true rfl)) dJ16_remove_5 ⟨by first | exact Nat.le_of_ble_eq_true rfl | omega | (dsimp only; omega), by first | exact Nat.le_of_ble_eq_true rfl | omega | (dsimp only; omega)⟩) hS hFk_1 hJk_1 (fun r_2 u_3 H locs hpk_1 hSep hS hzk_1 => ?_)
    obtain rfl : r_2 = (nI i1) := hpk_1
    refine W.cs (cells' := 0) (slots' := 0) rfl rfl ?_
    have hSep : Sep G.1 clA (Fz F s.heap.size) [R, pts q1 (.inr (10, [.int mm, .ref b, .int (nI xs.length)])), pts b (.inl (G.2.1 4, 10, .inr (.inr (.inr (.inr f)))))] H := hSep
    refine lv_pop hx hb dJ16_remove_8 rfl ?_
    refine lv_aload_n hx hb dJ16_remove_9 rfl (lv_at hl 0 rfl) ?_
    refine va_get (D := G.1) (ci := 10) (v := .ref b) (C := RJ16) (T := TJ16) (N := 3) hx hb hts in_J16 hown hK (hSep.cel (k := 1) rfl) 0 rfl rfl 1 (by decide) (hts _ q383) (fun _ h9 => h9) rfl dJ16_remove_10 ?_
    refine lv_astore_n (lv' := [(2, .ref b), (0, .ref q1), (1, .int (nI i1))]) hx hb dJ16_remove_13 rfl hl (by decide) rfl (fun ls hl => ?_)
    refine lv_aload_n hx hb dJ16_remove_14 rfl (lv_at hl 0 rfl) ?_
    refine lv_iload_n hx hb dJ16_remove_15 rfl (lv_at hl 2 rfl) ?_
    refine n_aald (i := i1) hx hb hK (hSep.cel (k := 2) rfl) 4 rfl (by omega) (by omega) dJ16_remove_16 ?_
    refine n_eqv (y := va_rf (some (xs.getD i1 0))) (congrArg va_rf (hx2 i1 hi)) ?_
    refine lv_astore_n (lv' := [(3, va_rf (some (xs.getD i1 0))), (2, .ref b), (0, .ref q1), (1, .int (nI i1))]) hx hb dJ16_remove_17 rfl hl (by decide) rfl (fun ls hl => ?_)
    refine lv_aload_n hx hb dJ16_remove_18 rfl (lv_at hl 2 rfl) ?_
    refine lv_aload_n hx hb dJ16_remove_19 rfl (lv_at hl 1 rfl) ?_
    refine lv_iload_n hx hb dJ16_remove_20 rfl (lv_at hl 3 rfl) ?_
    obtain ⟨Fk_4, hFk_4, hPk_4, hJk_4⟩ := hSep.cut (Pc := [pts q1 (.inr (10, [.int mm, .ref b, .int (nI xs.length)])), pts b (.inl (G.2.1 4, 10, .inr (.inr (.inr (.inr f))))), R]) (Pr := []) (fun q h => Fz.new (Nat.le_trans hS.1 h)) [1, 2, 0] [] rfl rfl rfl rfl (by decide)
    refine c_v (va_runV (As := [.ref b, .int (nI i1)]) (rest := []) ⟨hx, hb, hml, hown, hts⟩ (m_J16_fastRemove l G Fk_4 H.size q1 mm xs b f i1 R Ce (hR) (by first | assumption | omega) (by first | assumption | omega) (by first | assumption | omega)) (cwV 2 hts (lw_V q872 q874 qs9 q63 q875) rfl rfl rfl (by decide +kernel) ⟨Nat.le_of_ble_eq_true rfl, Nat.le_of_ble_eq_true rfl⟩) (sp_preV hE hS hFk_4 hPk_4 trivial (sp_recv (ci := 10) hK (hSep.cel (k := 1) rfl) rfl)) rfl rfl hl.1 rfl (lv_room (Nat.le_of_ble_eq_true rfl)) dJ16_remove_21 ⟨by first | exact Nat.le_of_ble_eq_true rfl | omega | (dsimp only; omega), by first | exact Nat.le_of_ble_eq_true rfl | omega | (dsimp only; omega)⟩) hS hFk_4 hJk_4 (fun u_6 H locs hpk_4 hSep hS hzk_4 => ?_)
    obtain ⟨f2, rfl⟩ : ∃ z, z = u_6 := ⟨_, rfl⟩
    have hpk_4 : ∀ k, k < (xs.eraseIdx i1).length → f2 k = some ((xs.eraseIdx i1).getD k 0) := hpk_4
    refine W.cs (cells' := 0) (slots' := 0) rfl rfl ?_
    have hSep : Sep G.1 clA (Fz F s.heap.size) [pts q1 (.inr (10, [.int (mm + nI 1), .ref b, .int (nI (xs.length - 1))])), pts b (.inl (G.2.1 4, 10, .inr (.inr (.inr (.inr f2))))), R] H := hSep
    have hf2 := hpk_4
    refine lv_aload_n hx hb dJ16_remove_24 rfl (lv_at hl 0 rfl) ?_
    rw [hQ]
    exact r_q (r := some (xs.getD i1 0)) (u := ()) hx hb hr (Or.inl ⟨_, rfl⟩) (rfl) (Sep.pick (hSep.close (P := listA G q1 (mm + nI 1) (xs.eraseIdx i1)) (Pc := [pts q1 (.inr (10, [.int (mm + nI 1), .ref b, .int (nI (xs.length - 1))])), pts b (.inl (G.2.1 4, 10, .inr (.inr (.inr (.inr f2)))))]) (Pr := [R]) [0, 1] [2] rfl rfl rfl rfl (by decide) (fun w hw => list_b (by rw [List.length_eraseIdx_of_lt hi]) (by rw [List.length_eraseIdx_of_lt hi]; omega) hf2 hw)) [1, 0] rfl rfl) hS (by first | exact Nat.le_of_ble_eq_true rfl | omega | (dsimp only; omega)) (by first | exact Nat.le_of_ble_eq_true rfl | omega | (dsimp only; omega)) dJ16_remove_25 hlocks

set_option maxHeartbeats 600000 in
set_option maxRecDepth 100000 in
theorem m_J23_valueOf (l : Launch) (G : EVT) (sz : Nat) (w1 : Nat) (hw : w1 ≤ 127) : Met l yJ23_valueOf (ws_ yJ23_valueOf cJ23_valueOf 1 (some (.object "java/lang/Integer"))) ({ frames := 0, cells := 0, slots := 0, locals := 0 } : Room) (SPc G (fun _ => False) sz [.int (nI w1)] [] (fun _ => True)) (SQq G (fun _ => False) sz (fun (r : Option Nat) (u : Unit) => r = some (G.2.2.1 (w1 + 128))) (fun (u : Unit) => [])) (0) (0) (Fz (fun _ => False) sz) := by
  refine sp_of RJ23 (by decide) rfl (Nat.le_of_ble_eq_true rfl) ?_
  intro p e s m args below meth c ls QQ hx hb hr hts hown hlocks hml hnm hsz hSep hΦ hE hS hl hQ
  subst hsz
  have hK := hE.1
  have hl : lv_has ls 1 [(0, .int (nI w1))] := hl
  refine lv_iload_n hx hb dJ23_valueOf_0 rfl (lv_at hl 0 rfl) ?_
  refine lv_bipush (v := (-128)) hx hb dJ23_valueOf_1 (by decide) ?_
  refine lv_icmp_lt (tgt := 23) hx hb dJ23_valueOf_3 (by decide) (fun c3 => ?_) (fun c3 => ?_)
  · exfalso; exact absurd c3 (by rw [Int32.lt_iff_toInt_lt, nI_toInt (by omega)]; have h9 : (-128 : Int32).toInt = -128 := rfl; omega)
  · refine lv_iload_n hx hb dJ23_valueOf_6 rfl (lv_at hl 0 rfl) ?_
    refine va_gets hx hb hE.2.2.2.2.2.1 hS hown (hts _ q988) (fun _ h9 => h9) dJ23_valueOf_7 ?_
    refine n_eqv (y := .int (nI 127)) rfl ?_
    refine n_icmp_gt (tgt := 23) hx hb (by omega) (by omega) dJ23_valueOf_10 (by decide) (fun c10 => ?_) (fun c10 => ?_)
    · exfalso; omega
    · refine va_gets hx hb hE.2.2.2.2.2.2.1 hS hown (hts _ q990) (fun _ h9 => h9) dJ23_valueOf_13 ?_
      refine lv_iload_n hx hb dJ23_valueOf_16 rfl (lv_at hl 0 rfl) ?_
      refine lv_sipush (v := (nI 128)) hx hb dJ23_valueOf_17 (by decide) ?_
      refine n_iadd hx hb dJ23_valueOf_20 ?_
      refine vb_tq (v := .ref (G.2.2.1 (w1 + 128))) hx hb hE.2.2.2.2.2.2.2.1 hS (vp_in_nI (by omega) (by decide)) (by rw [nI_clamp (by omega)]) dJ23_valueOf_21 ?_
      rw [hQ]
      exact r_q (r := some (G.2.2.1 (w1 + 128))) (u := ()) hx hb hr (Or.inl ⟨_, rfl⟩) (rfl) hSep hS (by first | exact Nat.le_of_ble_eq_true rfl | omega | (dsimp only; omega)) (by first | exact Nat.le_of_ble_eq_true rfl | omega | (dsimp only; omega)) dJ23_valueOf_22 hlocks

set_option maxHeartbeats 600000 in
set_option maxRecDepth 100000 in
theorem m_J23_intValue (l : Launch) (G : EVT) (sz : Nat) (w1 : Nat) (hw : w1 ≤ 127) : Met l yJ23_intValue (ws_ yJ23_intValue cJ23_intValue 1 (some .int)) ({ frames := 0, cells := 0, slots := 0, locals := 0 } : Room) (SPc G (fun _ => False) sz [.ref (G.2.2.1 (w1 + 128))] [] (fun _ => True)) (SQi G (fun _ => False) sz (fun (r : Int32) (u : Unit) => r = (nI w1)) (fun (u : Unit) => [])) (0) (0) (Fz (fun _ => False) sz) := by
  refine sp_of RJ23 (by decide) rfl (Nat.le_of_ble_eq_true rfl) ?_
  intro p e s m args below meth c ls QQ hx hb hr hts hown hlocks hml hnm hsz hSep hΦ hE hS hl hQ
  subst hsz
  have hK := hE.1
  have hl : lv_has ls 1 [(0, .ref (G.2.2.1 (w1 + 128)))] := hl
  refine lv_aload_n hx hb dJ23_intValue_0 rfl (lv_at hl 0 rfl) ?_
  refine va_getX (i := (w1 + 128)) (v := fun k => .int (vb_c k)) hx hb hE.2.2.2.2.2.2.2.2.1.2 (by omega) hS hown (hts _ q1001) (fun _ h9 => h9) dJ23_intValue_1 ?_
  refine n_eq (y := (nI w1)) (vb_c_nI hw) ?_
  rw [hQ]
  exact r_i (r := (nI w1)) (u := ()) hx hb hr (rfl) hSep hS (by first | exact Nat.le_of_ble_eq_true rfl | omega | (dsimp only; omega)) (by first | exact Nat.le_of_ble_eq_true rfl | omega | (dsimp only; omega)) dJ23_intValue_4 hlocks
