set_option maxRecDepth 100000
set_option maxHeartbeats 600000 in
set_option maxRecDepth 100000 in
theorem m_X4_canForbid (l : Launch) (G : EVT) (sz : Nat) (a : Nat) (f : Nat → Int32) (g : GS) (w : Nat) (he : Enc f g) (ho : gOk g) (hw : w < 2147483648) : Met l yX4_canForbid (ws_ yX4_canForbid cX4_canForbid 3 (some .boolean)) ({ frames := 2, cells := 0, slots := 0, locals := 63 } : Room) (SPc G (fun _ => False) sz [.ref a, .int (nI w)] [] (fun H => va_P G.1 clA [(a, .inl (G.2.1 0, 89, .inl f))] H)) (SQi G (fun _ => False) sz (fun (r : Int32) (u : Unit) => r = (bI (gCan g w))) (fun (u : Unit) => [])) (0) (0) (Fz (fun _ => False) sz) := by
  refine sp_of RX4 (by decide) rfl (Nat.le_of_ble_eq_true rfl) ?_
  intro p e s m args below meth c ls QQ hx hb hr hts hown hlocks hml hnm hsz hSep hΦ hE hS hl hQ
  subst hsz
  have hK := hE.1
  have hl : lv_has ls 3 [(0, .ref a), (1, .int (nI w))] := hl
  have hgt := gTurn_lt g
  refine lv_iconst (v := (nI 1)) hx hb dX4_canForbid_0 (by decide) ?_
  refine lv_aload_n hx hb dX4_canForbid_1 rfl (lv_at hl 0 rfl) ?_
  refine lv_iconst (v := (nI 1)) hx hb dX4_canForbid_2 (by decide) ?_
  refine n_iald (i := 1) hx hb hK ((ro0 hΦ hS).sub [0] rfl) 0 rfl (by omega) (by omega) dX4_canForbid_3 ?_
  refine n_eq (y := (nI (gTurn g))) ((he.num (by decide)).trans (gTurn_eq ho)) ?_
  refine n_isub hx hb (by omega) dX4_canForbid_4 ?_
  refine lv_istore_n (lv' := [(2, .int (nI (1 - (gTurn g)))), (0, .ref a), (1, .int (nI w))]) hx hb dX4_canForbid_5 rfl hl (by decide) rfl (fun ls hl => ?_)
  refine lv_aload_n hx hb dX4_canForbid_6 rfl (lv_at hl 1 rfl) ?_
  have hFk_1 : ∀ q, Fz (fun _ => False) s.heap.size q → (Fz (fun _ => False) s.heap.size) q := fun q h => by rcases h with h | h; exact h.elim; exact Fz.new (Nat.le_trans hS.1 h)
  have hPk_1 : Sep G.1 clA (Fz (fun _ => False) s.heap.size) [] s.heap := sp_nil
  have hJk_1 := sp_nilJ (F := (fun _ => False)) hSep (fun _ => id) hFk_1
  refine c_i (va_runS (As := [.ref a]) (rest := []) ⟨hx, hb, hml, hown, hts⟩ (m_X4_isOn l G s.heap.size a f g (by first | assumption | omega)) (va_cwS 1 hts (lw_S q1630 q1631 q44 q1632) rfl rfl rfl (by decide +kernel) ⟨Nat.le_of_ble_eq_true rfl, Nat.le_of_ble_eq_true rfl⟩) (sp_preS hE hS hFk_1 hPk_1 ((ro0 hΦ hS).sub [0] rfl)) rfl rfl hl.1 rfl (lv_room (Nat.le_of_ble_eq_true rfl)) dX4_canForbid_7 ⟨by first | exact Nat.le_of_ble_eq_true rfl | omega | (dsimp only; omega), by first | exact Nat.le_of_ble_eq_true rfl | omega | (dsimp only; omega)⟩) hS hFk_1 hJk_1 (fun r_2 u_3 H locs hpk_1 hSep hS hzk_1 => ?_)
  obtain rfl : r_2 = (bI (gOn g)) := hpk_1
  refine W.cs (cells' := 0) (slots' := 0) rfl rfl ?_
  have hSep : Sep G.1 clA (Fz (fun _ => False) s.heap.size) [] H := hSep
  refine b_if_eq (tgt := 42) hx hb dX4_canForbid_10 (by decide) (fun c10 => ?_) (fun c10 => ?_)
  · refine lv_iconst (v := (nI 0)) hx hb dX4_canForbid_42 (by decide) ?_
    rw [hQ]
    exact r_z (r := (nI 0)) (u := ()) hx hb hr (by decide) (by unfold gCan; first | (rw [show gOn g = false from c10]; rfl) | (rw [decide_eq_false c17]; simp; rfl) | (rw [show decide (w ∈ gL g (1 - gTurn g)) = false from c26]; simp; rfl) | (rw [show decide (w ∈ gB g (1 - gTurn g)) = true from c35]; simp; rfl) | (rw [c10, decide_eq_true c17, c26, c35]; rfl)) hSep hS (by first | exact Nat.le_of_ble_eq_true rfl | omega | (dsimp only; omega)) (by first | exact Nat.le_of_ble_eq_true rfl | omega | (dsimp only; omega)) dX4_canForbid_43 hlocks
  · refine lv_aload_n hx hb dX4_canForbid_13 rfl (lv_at hl 1 rfl) ?_
    refine lv_iconst (v := (nI 2)) hx hb dX4_canForbid_14 (by decide) ?_
    refine n_iald (i := 2) hx hb hK ((ro0 hΦ hS).sub [0] rfl) 0 rfl (by omega) (by omega) dX4_canForbid_15 ?_
    refine n_eq (y := (g.1 2)) (he.num (by decide)) ?_
    refine lv_iconst (v := (nI 1)) hx hb dX4_canForbid_16 (by decide) ?_
    refine lv_icmp_ne (tgt := 42) hx hb dX4_canForbid_17 (by decide) (fun c17 => ?_) (fun c17 => ?_)
    · refine lv_iconst (v := (nI 0)) hx hb dX4_canForbid_42 (by decide) ?_
      rw [hQ]
      exact r_z (r := (nI 0)) (u := ()) hx hb hr (by decide) (by unfold gCan; first | (rw [show gOn g = false from c10]; rfl) | (rw [decide_eq_false c17]; simp; rfl) | (rw [show decide (w ∈ gL g (1 - gTurn g)) = false from c26]; simp; rfl) | (rw [show decide (w ∈ gB g (1 - gTurn g)) = true from c35]; simp; rfl) | (rw [c10, decide_eq_true c17, c26, c35]; rfl)) hSep hS (by first | exact Nat.le_of_ble_eq_true rfl | omega | (dsimp only; omega)) (by first | exact Nat.le_of_ble_eq_true rfl | omega | (dsimp only; omega)) dX4_canForbid_43 hlocks
    · refine lv_aload_n hx hb dX4_canForbid_20 rfl (lv_at hl 1 rfl) ?_
      refine lv_iload_n hx hb dX4_canForbid_21 rfl (lv_at hl 0 rfl) ?_
      refine lv_iload_n hx hb dX4_canForbid_22 rfl (lv_at hl 2 rfl) ?_
      have hFk_4 : ∀ q, Fz (fun _ => False) H.size q → (Fz (fun _ => False) s.heap.size) q := fun q h => by rcases h with h | h; exact h.elim; exact Fz.new (Nat.le_trans hS.1 h)
      have hPk_4 : Sep G.1 clA (Fz (fun _ => False) H.size) [] H := sp_nil
      have hJk_4 := sp_nilJ (F := (fun _ => False)) hSep (fun _ => id) hFk_4
      refine c_i (va_runS (As := [.ref a, .int (nI (1 - (gTurn g))), .int (nI w)]) (rest := []) ⟨hx, hb, hml, hown, hts⟩ (m_X4_wasTold l G H.size a f g (1 - (gTurn g)) w (by first | assumption | omega) (by first | assumption | omega) (by first | assumption | omega) (by first | assumption | omega)) (va_cwS 3 hts (lw_S q1587 q1588 q44 q1589) rfl rfl rfl (by decide +kernel) ⟨Nat.le_of_ble_eq_true rfl, Nat.le_of_ble_eq_true rfl⟩) (sp_preS hE hS hFk_4 hPk_4 ((ro0 hΦ hS).sub [0] rfl)) rfl rfl hl.1 rfl (lv_room (Nat.le_of_ble_eq_true rfl)) dX4_canForbid_23 ⟨by first | exact Nat.le_of_ble_eq_true rfl | omega | (dsimp only; omega), by first | exact Nat.le_of_ble_eq_true rfl | omega | (dsimp only; omega)⟩) hS hFk_4 hJk_4 (fun r_5 u_6 H locs hpk_4 hSep hS hzk_4 => ?_)
      obtain rfl : r_5 = (bI (decide (w ∈ gL g (1 - (gTurn g))))) := hpk_4
      refine W.cs (cells' := 0) (slots' := 0) rfl rfl ?_
      have hSep : Sep G.1 clA (Fz (fun _ => False) s.heap.size) [] H := hSep
      refine b_if_eq (tgt := 42) hx hb dX4_canForbid_26 (by decide) (fun c26 => ?_) (fun c26 => ?_)
      · refine lv_iconst (v := (nI 0)) hx hb dX4_canForbid_42 (by decide) ?_
        rw [hQ]
        exact r_z (r := (nI 0)) (u := ()) hx hb hr (by decide) (by unfold gCan; first | (rw [show gOn g = false from c10]; rfl) | (rw [decide_eq_false c17]; simp; rfl) | (rw [show decide (w ∈ gL g (1 - gTurn g)) = false from c26]; simp; rfl) | (rw [show decide (w ∈ gB g (1 - gTurn g)) = true from c35]; simp; rfl) | (rw [c10, decide_eq_true c17, c26, c35]; rfl)) hSep hS (by first | exact Nat.le_of_ble_eq_true rfl | omega | (dsimp only; omega)) (by first | exact Nat.le_of_ble_eq_true rfl | omega | (dsimp only; omega)) dX4_canForbid_43 hlocks
      · refine lv_aload_n hx hb dX4_canForbid_29 rfl (lv_at hl 1 rfl) ?_
        refine lv_iload_n hx hb dX4_canForbid_30 rfl (lv_at hl 0 rfl) ?_
        refine lv_iload_n hx hb dX4_canForbid_31 rfl (lv_at hl 2 rfl) ?_
        have hFk_7 : ∀ q, Fz (fun _ => False) H.size q → (Fz (fun _ => False) s.heap.size) q := fun q h => by rcases h with h | h; exact h.elim; exact Fz.new (Nat.le_trans hS.1 h)
        have hPk_7 : Sep G.1 clA (Fz (fun _ => False) H.size) [] H := sp_nil
        have hJk_7 := sp_nilJ (F := (fun _ => False)) hSep (fun _ => id) hFk_7
        refine c_i (va_runS (As := [.ref a, .int (nI (1 - (gTurn g))), .int (nI w)]) (rest := []) ⟨hx, hb, hml, hown, hts⟩ (m_X4_isForbidden l G H.size a f g (1 - (gTurn g)) w (by first | assumption | omega) (by first | assumption | omega) (by first | assumption | omega) (by first | assumption | omega)) (va_cwS 3 hts (lw_S q1581 q1582 q44 q1583) rfl rfl rfl (by decide +kernel) ⟨Nat.le_of_ble_eq_true rfl, Nat.le_of_ble_eq_true rfl⟩) (sp_preS hE hS hFk_7 hPk_7 ((ro0 hΦ hS).sub [0] rfl)) rfl rfl hl.1 rfl (lv_room (Nat.le_of_ble_eq_true rfl)) dX4_canForbid_32 ⟨by first | exact Nat.le_of_ble_eq_true rfl | omega | (dsimp only; omega), by first | exact Nat.le_of_ble_eq_true rfl | omega | (dsimp only; omega)⟩) hS hFk_7 hJk_7 (fun r_8 u_9 H locs hpk_7 hSep hS hzk_7 => ?_)
        obtain rfl : r_8 = (bI (decide (w ∈ gB g (1 - (gTurn g))))) := hpk_7
        refine W.cs (cells' := 0) (slots' := 0) rfl rfl ?_
        have hSep : Sep G.1 clA (Fz (fun _ => False) s.heap.size) [] H := hSep
        refine b_if_ne (tgt := 42) hx hb dX4_canForbid_35 (by decide) (fun c35 => ?_) (fun c35 => ?_)
        · refine lv_iconst (v := (nI 0)) hx hb dX4_canForbid_42 (by decide) ?_
          rw [hQ]
          exact r_z (r := (nI 0)) (u := ()) hx hb hr (by decide) (by unfold gCan; first | (rw [show gOn g = false from c10]; rfl) | (rw [decide_eq_false c17]; simp; rfl) | (rw [show decide (w ∈ gL g (1 - gTurn g)) = false from c26]; simp; rfl) | (rw [show decide (w ∈ gB g (1 - gTurn g)) = true from c35]; simp; rfl) | (rw [c10, decide_eq_true c17, c26, c35]; rfl)) hSep hS (by first | exact Nat.le_of_ble_eq_true rfl | omega | (dsimp only; omega)) (by first | exact Nat.le_of_ble_eq_true rfl | omega | (dsimp only; omega)) dX4_canForbid_43 hlocks
        · refine lv_iconst (v := (nI 1)) hx hb dX4_canForbid_38 (by decide) ?_
          refine lv_goto (tgt := 43) hx hb dX4_canForbid_39 (by decide) ?_
          rw [hQ]
          exact r_z (r := (nI 1)) (u := ()) hx hb hr (by decide) (by unfold gCan; first | (rw [show gOn g = false from c10]; rfl) | (rw [decide_eq_false c17]; simp; rfl) | (rw [show decide (w ∈ gL g (1 - gTurn g)) = false from c26]; simp; rfl) | (rw [show decide (w ∈ gB g (1 - gTurn g)) = true from c35]; simp; rfl) | (rw [c10, decide_eq_true c17, c26, c35]; rfl)) hSep hS (by first | exact Nat.le_of_ble_eq_true rfl | omega | (dsimp only; omega)) (by first | exact Nat.le_of_ble_eq_true rfl | omega | (dsimp only; omega)) dX4_canForbid_43 hlocks

set_option maxHeartbeats 600000 in
set_option maxRecDepth 100000 in
theorem m_X4_ban (l : Launch) (G : EVT) (F : Nat → Prop) (sz : Nat) (a : Nat) (f : Nat → Int32) (g : GS) (w : Nat) (he : Enc f g) (ho : gOk g) (hw : w < 2147483648) : Met l yX4_ban (ws_ yX4_ban cX4_ban 4 (some .int)) ({ frames := 1, cells := 0, slots := 0, locals := 20 } : Room) (SPc G F sz [.ref a, .int (nI w)] [pts a (.inl (G.2.1 0, 89, .inl f))] (fun _ => True)) (SQi G F sz (fun (r : Int32) (u : (Nat → Int32)) => r = (nI ((gB (gBan g w) (1 - gTurn g)).length)) ∧ Enc u (gBan g w)) (fun (u : (Nat → Int32)) => [pts a (.inl (G.2.1 0, 89, .inl u))])) (0) (0) (Fz F sz) := by
  refine sp_of RX4 (by decide) rfl (Nat.le_of_ble_eq_true rfl) ?_
  intro p e s m args below meth c ls QQ hx hb hr hts hown hlocks hml hnm hsz hSep hΦ hE hS hl hQ
  subst hsz
  have hK := hE.1
  have hl : lv_has ls 4 [(0, .ref a), (1, .int (nI w))] := hl
  have hgt := gTurn_lt g
  have hT : (1 - gTurn g) < 2 := by omega
  have hbl := (gB_ok ho hT).1
  have hbm := gBans_ok ho
  have hlB : ∀ t, t < 2 → (gB g t).length ≤ 6 := fun t h => Nat.le_succ_of_le (gB_ok ho h).1
  have hlL : ∀ t, t < 2 → (gL g t).length ≤ 5 := fun t h => (gL_ok ho h).1
  refine lv_iconst (v := (nI 1)) hx hb dX4_ban_0 (by decide) ?_
  refine lv_aload_n hx hb dX4_ban_1 rfl (lv_at hl 0 rfl) ?_
  refine lv_iconst (v := (nI 1)) hx hb dX4_ban_2 (by decide) ?_
  refine n_iald (i := 1) hx hb hK (hSep.cel (k := 0) rfl) 0 rfl (by omega) (by omega) dX4_ban_3 ?_
  refine n_eq (y := (nI (gTurn g))) ((he.num (by decide)).trans (gTurn_eq ho)) ?_
  refine n_isub hx hb (by omega) dX4_ban_4 ?_
  have hFk_1 : ∀ q, Fz (fun _ => False) s.heap.size q → (Fz F s.heap.size) q := fun q h => by rcases h with h | h; exact h.elim; exact Fz.new (Nat.le_trans hS.1 h)
  have hPk_1 : Sep G.1 clA (Fz (fun _ => False) s.heap.size) [] s.heap := sp_nil
  have hJk_1 := sp_nilJ (F := (fun _ => False)) hSep (fun _ => id) hFk_1
  refine c_i (va_runS (As := [.int (nI (1 - (gTurn g)))]) (rest := []) ⟨hx, hb, hml, hown, hts⟩ (m_X4_at l G s.heap.size (1 - (gTurn g)) ) (va_cwS 1 hts (lw_S q1584 q1585 q44 q1586) rfl rfl rfl (by decide +kernel) ⟨Nat.le_of_ble_eq_true rfl, Nat.le_of_ble_eq_true rfl⟩) (sp_preS hE hS hFk_1 hPk_1 trivial) rfl rfl hl.1 rfl (lv_room (Nat.le_of_ble_eq_true rfl)) dX4_ban_5 ⟨by first | exact Nat.le_of_ble_eq_true rfl | omega | (dsimp only; omega), by first | exact Nat.le_of_ble_eq_true rfl | omega | (dsimp only; omega)⟩) hS hFk_1 hJk_1 (fun r_2 u_3 H locs hpk_1 hSep hS hzk_1 => ?_)
  obtain rfl : r_2 = (nI (23 + 15 * (1 - (gTurn g)))) := hpk_1
  refine W.cs (cells' := 0) (slots' := 0) rfl rfl ?_
  have hSep : Sep G.1 clA (Fz F s.heap.size) [pts a (.inl (G.2.1 0, 89, .inl f))] H := hSep
  refine lv_istore_n (lv' := [(2, .int (nI (23 + 15 * (1 - (gTurn g))))), (0, .ref a), (1, .int (nI w))]) hx hb dX4_ban_8 rfl hl (by decide) rfl (fun ls hl => ?_)
  refine lv_aload_n hx hb dX4_ban_9 rfl (lv_at hl 1 rfl) ?_
  refine lv_iload_n hx hb dX4_ban_10 rfl (lv_at hl 0 rfl) ?_
  refine lv_iconst (v := (nI 3)) hx hb dX4_ban_11 (by decide) ?_
  refine n_iadd hx hb dX4_ban_12 ?_
  refine lv_aload_n hx hb dX4_ban_13 rfl (lv_at hl 1 rfl) ?_
  refine lv_iload_n hx hb dX4_ban_14 rfl (lv_at hl 0 rfl) ?_
  refine lv_iconst (v := (nI 2)) hx hb dX4_ban_15 (by decide) ?_
  refine n_iadd hx hb dX4_ban_16 ?_
  refine n_iald (i := (23 + 15 * (1 - (gTurn g))) + 2) hx hb hK (hSep.cel (k := 0) rfl) 0 rfl (by omega) (by omega) dX4_ban_17 ?_
  refine n_eq (y := (nI ((gB g (1 - gTurn g)).length))) (he.bn hT (by omega)) ?_
  refine n_iadd hx hb dX4_ban_18 ?_
  refine lv_iload_n hx hb dX4_ban_19 rfl (lv_at hl 2 rfl) ?_
  refine n_iast (i := ((23 + 15 * (1 - (gTurn g))) + 3) + ((gB g (1 - gTurn g)).length)) (x := (nI w)) (y := (nI w)) hx hb hK hSep hS 0 rfl 0 rfl (by omega) (by omega) (rfl) dX4_ban_20 (fun H locs hSep hS => ?_)
  have hSep : Sep G.1 clA (Fz F s.heap.size) [pts a (.inl (G.2.1 0, 89, .inl (upd f (((23 + 15 * (1 - (gTurn g))) + 3) + ((gB g (1 - gTurn g)).length)) (nI w))))] H := hSep
  refine lv_aload_n hx hb dX4_ban_21 rfl (lv_at hl 1 rfl) ?_
  refine lv_iload_n hx hb dX4_ban_22 rfl (lv_at hl 0 rfl) ?_
  refine lv_iconst (v := (nI 2)) hx hb dX4_ban_23 (by decide) ?_
  refine n_iadd hx hb dX4_ban_24 ?_
  refine lv_dup2_11 hx hb dX4_ban_25 rfl rfl ?_
  refine n_iald (i := (23 + 15 * (1 - (gTurn g))) + 2) hx hb hK (hSep.cel (k := 0) rfl) 0 rfl (by omega) (by omega) dX4_ban_26 ?_
  refine n_eq (y := (nI ((gB g (1 - gTurn g)).length))) ((upd_n (by omega)).trans (he.bn hT (by omega))) ?_
  refine lv_iconst (v := (nI 1)) hx hb dX4_ban_27 (by decide) ?_
  refine n_iadd hx hb dX4_ban_28 ?_
  refine n_iast (i := (23 + 15 * (1 - (gTurn g))) + 2) (x := (nI (((gB g (1 - gTurn g)).length) + 1))) (y := (nI (((gB g (1 - gTurn g)).length) + 1))) hx hb hK hSep hS 0 rfl 0 rfl (by omega) (by omega) (rfl) dX4_ban_29 (fun H locs hSep hS => ?_)
  have hSep : Sep G.1 clA (Fz F s.heap.size) [pts a (.inl (G.2.1 0, 89, .inl (upd (upd f (((23 + 15 * (1 - (gTurn g))) + 3) + ((gB g (1 - gTurn g)).length)) (nI w)) ((23 + 15 * (1 - (gTurn g))) + 2) (nI (((gB g (1 - gTurn g)).length) + 1)))))] H := hSep
  have L30 : ∀ (fu : Nat) (l9 : List Nat) (f2 : Nat → Int32) , l9.length < fu → (Enc f2 (gsetB g (1 - gTurn g) l9)) → (l9.length ≤ 6) → (banL l9 (gBans g) = banL (gB g (1 - gTurn g) ++ [w]) (gBans g)) → ∀ (H : Heap) (locs : List Loc) (ls : Array Slot), Sep G.1 clA (Fz F s.heap.size) [pts a (.inl (G.2.1 0, 89, .inl f2))] H → va_S (Fz F s.heap.size) s.heap H locs → lv_has ls 4 [(2, .int (nI (23 + 15 * (1 - (gTurn g))))), (0, .ref a), (1, .int (nI w))] → W p l e ({ frames := 1, cells := 0, slots := 0, locals := 20 } : Room) s m args below meth c H locs (0) (0) QQ (F0 m 30 ls []) := by
    intro fu
    induction fu with
    | zero => intro l9 f2 hm; exact absurd hm (Nat.not_lt_zero _)
    | succ fu ih30 =>
      intro l9 f2 hm30 hp30_0 hp30_1 hp30_2 H locs ls hSep hS hl
      refine lv_aload_n hx hb dX4_ban_30 rfl (lv_at hl 1 rfl) ?_
      refine lv_iload_n hx hb dX4_ban_31 rfl (lv_at hl 0 rfl) ?_
      refine lv_iconst (v := (nI 2)) hx hb dX4_ban_32 (by decide) ?_
      refine n_iadd hx hb dX4_ban_33 ?_
      refine n_iald (i := (23 + 15 * (1 - (gTurn g))) + 2) hx hb hK (hSep.cel (k := 0) rfl) 0 rfl (by omega) (by omega) dX4_ban_34 ?_
      refine n_eq (y := (nI l9.length)) ((hp30_0.bn hT (by omega)).trans (by rw [gB_same])) ?_
      refine lv_aload_n hx hb dX4_ban_35 rfl (lv_at hl 1 rfl) ?_
      refine lv_bipush (v := (nI 9)) hx hb dX4_ban_36 (by decide) ?_
      refine n_iald (i := 9) hx hb hK (hSep.cel (k := 0) rfl) 0 rfl (by omega) (by omega) dX4_ban_38 ?_
      refine n_eq (y := (nI (gBans g))) ((hp30_0.num (by decide)).trans hbm.2.2) ?_
      refine n_icmp_le (tgt := 87) hx hb (by omega) (by omega) dX4_ban_39 (by decide) (fun c39 => ?_) (fun c39 => ?_)
      · have e9 : l9 = banL (gB g (1 - gTurn g) ++ [w]) (gBans g) := by rw [← hp30_2, banL_le c39]
        refine lv_aload_n hx hb dX4_ban_87 rfl (lv_at hl 1 rfl) ?_
        refine lv_iload_n hx hb dX4_ban_88 rfl (lv_at hl 0 rfl) ?_
        refine lv_iconst (v := (nI 2)) hx hb dX4_ban_89 (by decide) ?_
        refine n_iadd hx hb dX4_ban_90 ?_
        refine n_iald (i := (23 + 15 * (1 - (gTurn g))) + 2) hx hb hK (hSep.cel (k := 0) rfl) 0 rfl (by omega) (by omega) dX4_ban_91 ?_
        refine n_eq (y := (nI l9.length)) ((hp30_0.bn hT (by omega)).trans (by rw [gB_same])) ?_
        rw [hQ]
        exact r_i (r := (nI l9.length)) (u := f2) hx hb hr (⟨by rw [gB_ban, ← e9], by unfold gBan; rw [← e9]; exact hp30_0⟩) hSep hS (by first | exact Nat.le_of_ble_eq_true rfl | omega | (dsimp only; omega)) (by first | exact Nat.le_of_ble_eq_true rfl | omega | (dsimp only; omega)) dX4_ban_92 hlocks
      · refine lv_aload_n hx hb dX4_ban_42 rfl (lv_at hl 1 rfl) ?_
        refine lv_iload_n hx hb dX4_ban_43 rfl (lv_at hl 0 rfl) ?_
        refine lv_iconst (v := (nI 2)) hx hb dX4_ban_44 (by decide) ?_
        refine n_iadd hx hb dX4_ban_45 ?_
        refine lv_dup2_11 hx hb dX4_ban_46 rfl rfl ?_
        refine n_iald (i := (23 + 15 * (1 - (gTurn g))) + 2) hx hb hK (hSep.cel (k := 0) rfl) 0 rfl (by omega) (by omega) dX4_ban_47 ?_
        refine n_eq (y := (nI l9.length)) ((hp30_0.bn hT (by omega)).trans (by rw [gB_same])) ?_
        refine lv_iconst (v := (nI 1)) hx hb dX4_ban_48 (by decide) ?_
        refine n_isub hx hb (by omega) dX4_ban_49 ?_
        refine n_iast (i := (23 + 15 * (1 - (gTurn g))) + 2) (x := (nI (l9.length - 1))) (y := (nI (l9.length - 1))) hx hb hK hSep hS 0 rfl 0 rfl (by omega) (by omega) (rfl) dX4_ban_50 (fun H locs hSep hS => ?_)
        have hSep : Sep G.1 clA (Fz F s.heap.size) [pts a (.inl (G.2.1 0, 89, .inl (upd f2 ((23 + 15 * (1 - (gTurn g))) + 2) (nI (l9.length - 1)))))] H := hSep
        refine lv_iconst (v := (nI 0)) hx hb dX4_ban_51 (by decide) ?_
        refine lv_istore_n (lv' := [(3, .int (nI 0)), (2, .int (nI (23 + 15 * (1 - (gTurn g))))), (0, .ref a), (1, .int (nI w))]) hx hb dX4_ban_52 rfl hl (by decide) rfl (fun ls hl => ?_)
        have L53 : ∀ (fu : Nat) (k : Nat) (f3 : Nat → Int32) , l9.length - 1 - k < fu → (k ≤ l9.length - 1) → (∀ i, (i < 25 + 15 * (1 - gTurn g) ∨ 32 + 15 * (1 - gTurn g) ≤ i) → f3 i = f2 i) → (f3 (25 + 15 * (1 - gTurn g)) = nI (l9.length - 1)) → (∀ j, j < k → f3 (26 + 15 * (1 - gTurn g) + j) = nI (l9.getD (j + 1) 0)) → (∀ j, k ≤ j → j < l9.length → f3 (26 + 15 * (1 - gTurn g) + j) = nI (l9.getD j 0)) → ∀ (H : Heap) (locs : List Loc) (ls : Array Slot), Sep G.1 clA (Fz F s.heap.size) [pts a (.inl (G.2.1 0, 89, .inl f3))] H → va_S (Fz F s.heap.size) s.heap H locs → lv_has ls 4 [(3, .int (nI k)), (2, .int (nI (23 + 15 * (1 - (gTurn g))))), (0, .ref a), (1, .int (nI w))] → W p l e ({ frames := 1, cells := 0, slots := 0, locals := 20 } : Room) s m args below meth c H locs (0) (0) QQ (F0 m 53 ls []) := by
          intro fu
          induction fu with
          | zero => intro k f3 hm; exact absurd hm (Nat.not_lt_zero _)
          | succ fu ih53 =>
            intro k f3 hm53 hp53_0 hp53_1 hp53_2 hp53_3 hp53_4 H locs ls hSep hS hl
            refine lv_iload_n hx hb dX4_ban_53 rfl (lv_at hl 0 rfl) ?_
            refine lv_aload_n hx hb dX4_ban_54 rfl (lv_at hl 2 rfl) ?_
            refine lv_iload_n hx hb dX4_ban_55 rfl (lv_at hl 1 rfl) ?_
            refine lv_iconst (v := (nI 2)) hx hb dX4_ban_56 (by decide) ?_
            refine n_iadd hx hb dX4_ban_57 ?_
            refine n_iald (i := (23 + 15 * (1 - (gTurn g))) + 2) hx hb hK (hSep.cel (k := 0) rfl) 0 rfl (by omega) (by omega) dX4_ban_58 ?_
            refine n_eq (y := (nI (l9.length - 1))) (by rw [show 23 + 15 * (1 - gTurn g) + 2 = 25 + 15 * (1 - gTurn g) by omega]; exact hp53_2) ?_
            refine n_icmp_ge (tgt := 84) hx hb (by omega) (by omega) dX4_ban_59 (by decide) (fun c59 => ?_) (fun c59 => ?_)
            · obtain rfl : k = l9.length - 1 := by omega
              refine lv_goto (tgt := 30) hx hb dX4_ban_84 (by decide) ?_
              exact ih30 l9.tail f3 (by rw [List.length_tail]; omega) (by rw [← gsetB_setB (l := l9)]; exact hp30_0.setB hT (by rw [List.length_tail]; omega) (fun t h => by rw [gB_setB]; split; exact hp30_1; exact hlB t h) hlL hp53_1 (by rw [hp53_2, List.length_tail]) (fun k h => by rw [List.length_tail] at h; rw [hp53_3 k (by omega), tail_getD])) (by rw [List.length_tail]; omega) (by rw [← hp30_2]; exact banL_tl (by omega)) _ _ _ hSep hS (lv_sub hl [1, 2, 3] rfl)
            · refine lv_aload_n hx hb dX4_ban_62 rfl (lv_at hl 2 rfl) ?_
              refine lv_iload_n hx hb dX4_ban_63 rfl (lv_at hl 1 rfl) ?_
              refine lv_iconst (v := (nI 3)) hx hb dX4_ban_64 (by decide) ?_
              refine n_iadd hx hb dX4_ban_65 ?_
              refine lv_iload_n hx hb dX4_ban_66 rfl (lv_at hl 0 rfl) ?_
              refine n_iadd hx hb dX4_ban_67 ?_
              refine lv_aload_n hx hb dX4_ban_68 rfl (lv_at hl 2 rfl) ?_
              refine lv_iload_n hx hb dX4_ban_69 rfl (lv_at hl 1 rfl) ?_
              refine lv_iconst (v := (nI 3)) hx hb dX4_ban_70 (by decide) ?_
              refine n_iadd hx hb dX4_ban_71 ?_
              refine lv_iload_n hx hb dX4_ban_72 rfl (lv_at hl 0 rfl) ?_
              refine n_iadd hx hb dX4_ban_73 ?_
              refine lv_iconst (v := (nI 1)) hx hb dX4_ban_74 (by decide) ?_
              refine n_iadd hx hb dX4_ban_75 ?_
              refine n_iald (i := (((23 + 15 * (1 - (gTurn g))) + 3) + k) + 1) hx hb hK (hSep.cel (k := 0) rfl) 0 rfl (by omega) (by omega) dX4_ban_76 ?_
              refine n_eq (y := (nI (l9.getD (k + 1) 0))) (by rw [show 23 + 15 * (1 - gTurn g) + 3 + k + 1 = 26 + 15 * (1 - gTurn g) + (k + 1) by omega]; exact hp53_4 (k + 1) (by omega) (by omega)) ?_
              refine n_iast (i := ((23 + 15 * (1 - (gTurn g))) + 3) + k) (x := (nI (l9.getD (k + 1) 0))) (y := (nI (l9.getD (k + 1) 0))) hx hb hK hSep hS 0 rfl 0 rfl (by omega) (by omega) (rfl) dX4_ban_77 (fun H locs hSep hS => ?_)
              have hSep : Sep G.1 clA (Fz F s.heap.size) [pts a (.inl (G.2.1 0, 89, .inl (upd f3 (((23 + 15 * (1 - (gTurn g))) + 3) + k) (nI (l9.getD (k + 1) 0)))))] H := hSep
              refine lv_iinc (v := (nI (k + 1))) (lv' := [(3, .int (nI (k + 1))), (2, .int (nI (23 + 15 * (1 - (gTurn g))))), (0, .ref a), (1, .int (nI w))]) hx hb dX4_ban_78 hl (k := 0) rfl (nI_inc k 1) (by decide) rfl (fun ls hl => ?_)
              refine lv_goto (tgt := 53) hx hb dX4_ban_81 (by decide) ?_
              exact ih53 (k + 1) (upd f3 (((23 + 15 * (1 - (gTurn g))) + 3) + k) (nI (l9.getD (k + 1) 0))) (by omega) (by omega) (fun i h => by rw [upd_n (by omega)]; exact hp53_1 i h) (by rw [upd_n (by omega)]; exact hp53_2) (fun j h => by by_cases e9 : j = k; rw [upd_s (by omega), e9]; rw [upd_n (by omega)]; exact hp53_3 j (by omega)) (fun j h1 h2 => by rw [upd_n (by omega)]; exact hp53_4 j (by omega) h2) _ _ _ hSep hS (lv_sub hl [0, 1, 2, 3] rfl)
        exact L53 (l9.length - 1 - 0 + 1) 0 (upd f2 ((23 + 15 * (1 - (gTurn g))) + 2) (nI (l9.length - 1))) (Nat.lt_succ_self _) (Nat.zero_le _) (fun i h => upd_n (by omega)) (upd_s (by omega)) (fun j h => absurd h (Nat.not_lt_zero _)) (fun j h1 h2 => by rw [upd_n (by omega)]; exact (hp30_0.b hT (by rw [gB_same]; exact h2) rfl).trans (by rw [gB_same])) _ _ _ hSep hS (lv_sub hl [0, 1, 2, 3] rfl)
  exact L30 ((gB g (1 - gTurn g) ++ [w]).length + 1) (gB g (1 - gTurn g) ++ [w]) (upd (upd f (((23 + 15 * (1 - (gTurn g))) + 3) + ((gB g (1 - gTurn g)).length)) (nI w)) ((23 + 15 * (1 - (gTurn g))) + 2) (nI (((gB g (1 - gTurn g)).length) + 1))) (Nat.lt_succ_self _) (he.setB hT (by simp; omega) hlB hlL (fun i h => by rw [upd_n (by omega), upd_n (by omega)]) (by rw [upd_s (by omega)]; simp) (fun k h => by rw [upd_n (by omega)]; by_cases e9 : k = (gB g (1 - gTurn g)).length; rw [upd_s (by omega), e9]; simp [List.getD_eq_getElem?_getD]; rw [upd_n (by omega)]; have h8 : k < (gB g (1 - gTurn g)).length := (by simp at h; omega); rw [he.b hT h8 rfl]; simp [List.getD_eq_getElem?_getD, List.getElem?_append_left h8])) (by simp; omega) (rfl) _ _ _ hSep hS (lv_sub hl [0, 1, 2] rfl)

set_option maxHeartbeats 600000 in
set_option maxRecDepth 100000 in
theorem m_X4_forbidOn (l : Launch) (G : EVT) (F : Nat → Prop) (sz : Nat) (a : Nat) (f : Nat → Int32) (g : GS) (w : Nat) (he : Enc f g) (ho : gOk g) (hw : w < 18) : Met l yX4_forbidOn (ws_ yX4_forbidOn cX4_forbidOn 3 (some .int)) ({ frames := 2, cells := 0, slots := 0, locals := 44 } : Room) (SPc G F sz [.ref a, .int (nI w)] [pts a (.inl (G.2.1 0, 89, .inl f))] (fun _ => True)) (SQi G F sz (fun (r : Int32) (u : (Nat → Int32)) => r = (nI ((gB (gBan g w) (1 - gTurn g)).length)) ∧ Enc u (gForbid g w)) (fun (u : (Nat → Int32)) => [pts a (.inl (G.2.1 0, 89, .inl u))])) (0) (0) (Fz F sz) := by
  refine sp_of RX4 (by decide) rfl (Nat.le_of_ble_eq_true rfl) ?_
  intro p e s m args below meth c ls QQ hx hb hr hts hown hlocks hml hnm hsz hSep hΦ hE hS hl hQ
  subst hsz
  have hK := hE.1
  have hl : lv_has ls 3 [(0, .ref a), (1, .int (nI w))] := hl
  refine lv_aload_n hx hb dX4_forbidOn_0 rfl (lv_at hl 0 rfl) ?_
  refine lv_iload_n hx hb dX4_forbidOn_1 rfl (lv_at hl 1 rfl) ?_
  obtain ⟨Fk_1, hFk_1, hPk_1, hJk_1⟩ := hSep.cut (Pc := [pts a (.inl (G.2.1 0, 89, .inl f))]) (Pr := []) (fun q h => Fz.new (Nat.le_trans hS.1 h)) [0] [] rfl rfl rfl rfl (by decide)
  refine c_i (va_runS (As := [.ref a, .int (nI w)]) (rest := []) ⟨hx, hb, hml, hown, hts⟩ (m_X4_ban l G Fk_1 s.heap.size a f g w (by first | assumption | omega) (by first | assumption | omega) (by first | assumption | omega)) (va_cwS 2 hts (lw_S q1661 q1662 q44 q1663) rfl rfl rfl (by decide +kernel) ⟨Nat.le_of_ble_eq_true rfl, Nat.le_of_ble_eq_true rfl⟩) (sp_preS hE hS hFk_1 hPk_1 trivial) rfl rfl hl.1 rfl (lv_room (Nat.le_of_ble_eq_true rfl)) dX4_forbidOn_2 ⟨by first | exact Nat.le_of_ble_eq_true rfl | omega | (dsimp only; omega), by first | exact Nat.le_of_ble_eq_true rfl | omega | (dsimp only; omega)⟩) hS hFk_1 hJk_1 (fun r_2 u_3 H locs hpk_1 hSep hS hzk_1 => ?_)
  obtain ⟨f6, rfl⟩ : ∃ z, z = u_3 := ⟨_, rfl⟩
  obtain ⟨rfl, hpk_1⟩ : r_2 = (nI ((gB (gBan g w) (1 - gTurn g)).length)) ∧ Enc f6 (gBan g w) := hpk_1
  refine W.cs (cells' := 0) (slots' := 0) rfl rfl ?_
  have hSep : Sep G.1 clA (Fz F s.heap.size) [pts a (.inl (G.2.1 0, 89, .inl f6))] H := hSep
  have hf6 := hpk_1
  refine lv_istore_n (lv' := [(2, .int (nI ((gB (gBan g w) (1 - gTurn g)).length))), (0, .ref a), (1, .int (nI w))]) hx hb dX4_forbidOn_5 rfl hl (by decide) rfl (fun ls hl => ?_)
  refine lv_aload_n hx hb dX4_forbidOn_6 rfl (lv_at hl 1 rfl) ?_
  refine lv_iconst (v := (nI 0)) hx hb dX4_forbidOn_7 (by decide) ?_
  obtain ⟨Fk_4, hFk_4, hPk_4, hJk_4⟩ := hSep.cut (Pc := [pts a (.inl (G.2.1 0, 89, .inl f6))]) (Pr := []) (fun q h => Fz.new (Nat.le_trans hS.1 h)) [0] [] rfl rfl rfl rfl (by decide)
  refine c_v (va_runS (As := [.ref a, .int (nI 0)]) (rest := []) ⟨hx, hb, hml, hown, hts⟩ (m_X4_endTurn l G Fk_4 H.size a f6 (gBan g w) false (hf6) (gOk_ban ho hw)) (va_cwS 2 hts (lw_S q1664 q1665 q44 q1666) rfl rfl rfl (by decide +kernel) ⟨Nat.le_of_ble_eq_true rfl, Nat.le_of_ble_eq_true rfl⟩) (sp_preS hE hS hFk_4 hPk_4 trivial) rfl rfl hl.1 rfl (lv_room (Nat.le_of_ble_eq_true rfl)) dX4_forbidOn_8 ⟨by first | exact Nat.le_of_ble_eq_true rfl | omega | (dsimp only; omega), by first | exact Nat.le_of_ble_eq_true rfl | omega | (dsimp only; omega)⟩) hS hFk_4 hJk_4 (fun u_6 H locs hpk_4 hSep hS hzk_4 => ?_)
  obtain ⟨f7, rfl⟩ : ∃ z, z = u_6 := ⟨_, rfl⟩
  have hpk_4 : Enc f7 (gEnd (gBan g w) false) := hpk_4
  refine W.cs (cells' := 0) (slots' := 0) rfl rfl ?_
  have hSep : Sep G.1 clA (Fz F s.heap.size) [pts a (.inl (G.2.1 0, 89, .inl f7))] H := hSep
  have hf7 := hpk_4
  refine lv_iload_n hx hb dX4_forbidOn_11 rfl (lv_at hl 0 rfl) ?_
  rw [hQ]
  exact r_i (r := (nI ((gB (gBan g w) (1 - gTurn g)).length))) (u := f7) hx hb hr (⟨rfl, hf7⟩) hSep hS (by first | exact Nat.le_of_ble_eq_true rfl | omega | (dsimp only; omega)) (by first | exact Nat.le_of_ble_eq_true rfl | omega | (dsimp only; omega)) dX4_forbidOn_12 hlocks

set_option maxHeartbeats 600000 in
set_option maxRecDepth 100000 in
theorem m_X4_doneOn (l : Launch) (G : EVT) (F : Nat → Prop) (sz : Nat) (a : Nat) (f : Nat → Int32) (g : GS) (he : Enc f g) (ho : gOk g) : Met l yX4_doneOn (ws_ yX4_doneOn cX4_doneOn 1 (some .int)) ({ frames := 2, cells := 0, slots := 0, locals := 44 } : Room) (SPc G F sz [.ref a] [pts a (.inl (G.2.1 0, 89, .inl f))] (fun _ => True)) (SQi G F sz (fun (r : Int32) (u : (Nat → Int32)) => r = (gNextV (gDone g)) ∧ Enc u (gDone g)) (fun (u : (Nat → Int32)) => [pts a (.inl (G.2.1 0, 89, .inl u))])) (0) (0) (Fz F sz) := by
  refine sp_of RX4 (by decide) rfl (Nat.le_of_ble_eq_true rfl) ?_
  intro p e s m args below meth c ls QQ hx hb hr hts hown hlocks hml hnm hsz hSep hΦ hE hS hl hQ
  subst hsz
  have hK := hE.1
  have hl : lv_has ls 1 [(0, .ref a)] := hl
  have L12 : ∀ (b9 : Bool) , (b9 = decide (g.1 2 = nI 0)) → ∀ (H : Heap) (locs : List Loc) (ls : Array Slot), Sep G.1 clA (Fz F s.heap.size) [pts a (.inl (G.2.1 0, 89, .inl f))] H → va_S (Fz F s.heap.size) s.heap H locs → lv_has ls 1 [(0, .ref a)] → W p l e ({ frames := 2, cells := 0, slots := 0, locals := 44 } : Room) s m args below meth c H locs (0) (0) QQ (F0 m 12 ls [.int (bI b9), .ref a]) := by
    intro b9 hp12_0 H locs ls hSep hS hl
    obtain ⟨Fk_1, hFk_1, hPk_1, hJk_1⟩ := hSep.cut (Pc := [pts a (.inl (G.2.1 0, 89, .inl f))]) (Pr := []) (fun q h => Fz.new (Nat.le_trans hS.1 h)) [0] [] rfl rfl rfl rfl (by decide)
    refine c_v (va_runS (As := [.ref a, .int (bI b9)]) (rest := []) ⟨hx, hb, hml, hown, hts⟩ (m_X4_endTurn l G Fk_1 H.size a f g b9 (by first | assumption | omega) (by first | assumption | omega)) (va_cwS 2 hts (lw_S q1664 q1665 q44 q1666) rfl rfl rfl (by decide +kernel) ⟨Nat.le_of_ble_eq_true rfl, Nat.le_of_ble_eq_true rfl⟩) (sp_preS hE hS hFk_1 hPk_1 trivial) rfl rfl hl.1 rfl (lv_room (Nat.le_of_ble_eq_true rfl)) dX4_doneOn_12 ⟨by first | exact Nat.le_of_ble_eq_true rfl | omega | (dsimp only; omega), by first | exact Nat.le_of_ble_eq_true rfl | omega | (dsimp only; omega)⟩) hS hFk_1 hJk_1 (fun u_3 H locs hpk_1 hSep hS hzk_1 => ?_)
    obtain ⟨f6, rfl⟩ : ∃ z, z = u_3 := ⟨_, rfl⟩
    have hpk_1 : Enc f6 (gEnd g b9) := hpk_1
    refine W.cs (cells' := 0) (slots' := 0) rfl rfl ?_
    have hSep : Sep G.1 clA (Fz F s.heap.size) [pts a (.inl (G.2.1 0, 89, .inl f6))] H := hSep
    rw [hp12_0] at hpk_1
    have hf6 : Enc f6 (gDone g) := hpk_1
    refine lv_aload_n hx hb dX4_doneOn_15 rfl (lv_at hl 0 rfl) ?_
    have hFk_4 : ∀ q, Fz (fun _ => False) H.size q → (Fz F s.heap.size) q := fun q h => by rcases h with h | h; exact h.elim; exact Fz.new (Nat.le_trans hS.1 h)
    have hPk_4 : Sep G.1 clA (Fz (fun _ => False) H.size) [] H := sp_nil
    have hJk_4 := sp_nilJ (F := (fun _ => False)) hSep (fun _ => id) hFk_4
    refine c_i (va_runS (As := [.ref a]) (rest := []) ⟨hx, hb, hml, hown, hts⟩ (m_X4_next l G H.size a f6 (gDone g) (hf6)) (va_cwS 1 hts (lw_S q1570 q1571 q44 q1572) rfl rfl rfl (by decide +kernel) ⟨Nat.le_of_ble_eq_true rfl, Nat.le_of_ble_eq_true rfl⟩) (sp_preS hE hS hFk_4 hPk_4 (hSep.cel (k := 0) rfl)) rfl rfl hl.1 rfl (lv_room (Nat.le_of_ble_eq_true rfl)) dX4_doneOn_16 ⟨by first | exact Nat.le_of_ble_eq_true rfl | omega | (dsimp only; omega), by first | exact Nat.le_of_ble_eq_true rfl | omega | (dsimp only; omega)⟩) hS hFk_4 hJk_4 (fun r_5 u_6 H locs hpk_4 hSep hS hzk_4 => ?_)
    obtain rfl : r_5 = (gNextV (gDone g)) := hpk_4
    refine W.cs (cells' := 0) (slots' := 0) rfl rfl ?_
    have hSep : Sep G.1 clA (Fz F s.heap.size) [pts a (.inl (G.2.1 0, 89, .inl f6))] H := hSep
    rw [hQ]
    exact r_i (r := (gNextV (gDone g))) (u := f6) hx hb hr (⟨rfl, hf6⟩) hSep hS (by first | exact Nat.le_of_ble_eq_true rfl | omega | (dsimp only; omega)) (by first | exact Nat.le_of_ble_eq_true rfl | omega | (dsimp only; omega)) dX4_doneOn_19 hlocks
  refine lv_aload_n hx hb dX4_doneOn_0 rfl (lv_at hl 0 rfl) ?_
  refine lv_aload_n hx hb dX4_doneOn_1 rfl (lv_at hl 0 rfl) ?_
  refine lv_iconst (v := (nI 2)) hx hb dX4_doneOn_2 (by decide) ?_
  refine n_iald (i := 2) hx hb hK (hSep.cel (k := 0) rfl) 0 rfl (by omega) (by omega) dX4_doneOn_3 ?_
  refine n_eq (y := (g.1 2)) (he.num (by decide)) ?_
  refine lv_if_ne (tgt := 11) hx hb dX4_doneOn_4 (by decide) (fun c4 => ?_) (fun c4 => ?_)
  · refine lv_iconst (v := (nI 0)) hx hb dX4_doneOn_11 (by decide) ?_
    exact L12 false ((decide_eq_false c4).symm) _ _ _ hSep hS (lv_sub hl [0] rfl)
  · refine lv_iconst (v := (nI 1)) hx hb dX4_doneOn_7 (by decide) ?_
    refine lv_goto (tgt := 12) hx hb dX4_doneOn_8 (by decide) ?_
    exact L12 true ((decide_eq_true c4).symm) _ _ _ hSep hS (lv_sub hl [0] rfl)
