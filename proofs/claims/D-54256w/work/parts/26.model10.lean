set_option maxRecDepth 100000
set_option maxHeartbeats 600000 in
set_option maxRecDepth 100000 in
theorem m_X4_canTell (l : Launch) (G : EVT) (F : Nat → Prop) (sz : Nat) (mo : Nat) (fR : Int32) (aT : Nat) (zs : Nat) (aN : Nat) (aL : Nat) (aP : Nat) (aD : Nat) (ac : Nat) (aK : Nat) (aZ : Nat) (aG : Nat) (aB : Nat) (bl : Nat) (bp : Int32) (aS : Nat) (tl : Nat) (T : List Nat) (fT : Nat → Int32) (a : Nat) (f : Nat → Int32) (g : GS) (t : Nat) (fS : Nat → Int32) (hT : Pre fT T) (hz : zs = T.length) (h20 : T.length ≤ 20) (h256 : ∀ w ∈ T, w < 256) (he : Enc f g) (ho : gOk g) (ht : t < 2) : Met l yX4_canTell (ws_ yX4_canTell cX4_canTell 4 (some .boolean)) ({ frames := 3, cells := 0, slots := 0, locals := 86 } : Room) (SPc G F sz [.ref mo, .ref a, .int (nI t)] [pts mo (.inr (3, [.int fR, .ref aT, .int (nI zs), .ref aN, .ref aL, .ref aP, .ref aD, .int (nI ac), .ref aK, .ref aZ, .ref aG, .ref aB, .int (nI bl), .int bp, .ref aS, .int (nI tl)])), pts aT (.inl (G.2.1 0, 20, .inl fT)), pts aS (.inl (G.2.1 0, 5, .inl fS)), pts a (.inl (G.2.1 0, 89, .inl f))] (fun _ => True)) (SQi G F sz (fun (r : Int32) (u : (Nat → Int32) × Nat) => r = (bI (gCanTell g T t)) ∧ (gCanTell g T t = true → Pre u.1 (tW T) ∧ u.2 = (tW T).length)) (fun (u : (Nat → Int32) × Nat) => [pts mo (.inr (3, [.int fR, .ref aT, .int (nI zs), .ref aN, .ref aL, .ref aP, .ref aD, .int (nI ac), .ref aK, .ref aZ, .ref aG, .ref aB, .int (nI bl), .int bp, .ref aS, .int (nI u.2)])), pts aT (.inl (G.2.1 0, 20, .inl fT)), pts aS (.inl (G.2.1 0, 5, .inl u.1)), pts a (.inl (G.2.1 0, 89, .inl f))])) (0) (0) (Fz F sz) := by
  refine sp_of RX4 (by decide) rfl (Nat.le_of_ble_eq_true rfl) ?_
  intro p e s m args below meth c ls QQ hx hb hr hts hown hlocks hml hnm hsz hSep hΦ hE hS hl hQ
  subst hsz
  have hK := hE.1
  have hl : lv_has ls 4 [(0, .ref mo), (1, .ref a), (2, .int (nI t))] := hl
  refine lv_aload_n hx hb dX4_canTell_0 rfl (lv_at hl 1 rfl) ?_
  refine lv_iconst (v := (nI 0)) hx hb dX4_canTell_1 (by decide) ?_
  refine n_iald (i := 0) hx hb hK (hSep.cel (k := 3) rfl) 0 rfl (by omega) (by omega) dX4_canTell_2 ?_
  refine n_eq (y := (g.1 0)) (he.num (by decide)) ?_
  refine lv_if_eq (tgt := 14) hx hb dX4_canTell_3 (by decide) (fun c3 => ?_) (fun c3 => ?_)
  · refine lv_iconst (v := (nI 0)) hx hb dX4_canTell_14 (by decide) ?_
    rw [hQ]
    exact r_z (r := (nI 0)) (u := (fS, tl)) hx hb hr (by decide) (by have h9 : gCanTell g T t = false := decide_eq_false (fun h => by first | exact h.1 c3 | exact c11 ((errI_none (by omega)).mpr h.2.1)); rw [h9]; exact ⟨rfl, fun h => (by cases h)⟩) hSep hS (by first | exact Nat.le_of_ble_eq_true rfl | omega | (dsimp only; omega)) (by first | exact Nat.le_of_ble_eq_true rfl | omega | (dsimp only; omega)) dX4_canTell_15 hlocks
  · refine lv_aload_n hx hb dX4_canTell_6 rfl (lv_at hl 0 rfl) ?_
    obtain ⟨Fk_1, hFk_1, hPk_1, hJk_1⟩ := hSep.cut (Pc := [pts mo (.inr (3, [.int fR, .ref aT, .int (nI zs), .ref aN, .ref aL, .ref aP, .ref aD, .int (nI ac), .ref aK, .ref aZ, .ref aG, .ref aB, .int (nI bl), .int bp, .ref aS, .int (nI tl)])), pts aT (.inl (G.2.1 0, 20, .inl fT)), pts aS (.inl (G.2.1 0, 5, .inl fS))]) (Pr := [pts a (.inl (G.2.1 0, 89, .inl f))]) (fun q h => Fz.new (Nat.le_trans hS.1 h)) [0, 1, 2] [3] rfl rfl rfl rfl (by decide)
    refine c_i (va_runV (As := []) (rest := []) ⟨hx, hb, hml, hown, hts⟩ (m_X4_readText l G Fk_1 s.heap.size mo fR aT zs aN aL aP aD ac aK aZ aG aB bl bp aS tl fT fS T (by first | assumption | omega) (hz) (by first | assumption | omega) (by first | assumption | omega)) (cwV 0 hts (lw_V q1547 q1549 qs22 q44 q1550) rfl rfl rfl (by decide +kernel) ⟨Nat.le_of_ble_eq_true rfl, Nat.le_of_ble_eq_true rfl⟩) (sp_preV hE hS hFk_1 hPk_1 trivial (sp_recv (ci := 3) hK (hSep.cel (k := 0) rfl) rfl)) rfl rfl hl.1 rfl (lv_room (Nat.le_of_ble_eq_true rfl)) dX4_canTell_7 ⟨by first | exact Nat.le_of_ble_eq_true rfl | omega | (dsimp only; omega), by first | exact Nat.le_of_ble_eq_true rfl | omega | (dsimp only; omega)⟩) hS hFk_1 hJk_1 (fun r_2 u_3 H locs hpk_1 hSep hS hzk_1 => ?_)
    obtain ⟨fS5, tl5⟩ := u_3
    obtain ⟨rfl, hpk_1⟩ : r_2 = (errI T) ∧ (rd 0 [] T = none → Pre fS5 (tW T) ∧ tl5 = (tW T).length) := hpk_1
    refine W.cs (cells' := 0) (slots' := 0) rfl rfl ?_
    have hSep : Sep G.1 clA (Fz F s.heap.size) [pts a (.inl (G.2.1 0, 89, .inl f)), pts mo (.inr (3, [.int fR, .ref aT, .int (nI zs), .ref aN, .ref aL, .ref aP, .ref aD, .int (nI ac), .ref aK, .ref aZ, .ref aG, .ref aB, .int (nI bl), .int bp, .ref aS, .int (nI tl5)])), pts aT (.inl (G.2.1 0, 20, .inl fT)), pts aS (.inl (G.2.1 0, 5, .inl fS5))] H := hSep
    have hR := hpk_1
    refine lv_iconst (v := (-1)) hx hb dX4_canTell_10 (by decide) ?_
    refine lv_icmp_eq (tgt := 16) hx hb dX4_canTell_11 (by decide) (fun c11 => ?_) (fun c11 => ?_)
    · have hnn := (errI_none (by omega)).mp c11
      have hse := rd_sent hnn
      have hle := (Sent_len hse).2
      have hR := hR hnn
      obtain ⟨hR1, hR2⟩ := hR
      subst hR2
      have hR := And.intro hR1 hle
      refine lv_iconst (v := (nI 0)) hx hb dX4_canTell_16 (by decide) ?_
      refine lv_istore_n (lv' := [(3, .int (nI 0)), (0, .ref mo), (1, .ref a), (2, .int (nI t))]) hx hb dX4_canTell_17 rfl hl (by decide) rfl (fun ls hl => ?_)
      have L18 : ∀ (fu : Nat) (k : Nat) , (tW T).length - k < fu → (k ≤ (tW T).length) → (∀ j, j < k → (tW T).getD j 0 ∉ gB g t) → ∀ (H : Heap) (locs : List Loc) (ls : Array Slot), Sep G.1 clA (Fz F s.heap.size) [pts a (.inl (G.2.1 0, 89, .inl f)), pts mo (.inr (3, [.int fR, .ref aT, .int (nI zs), .ref aN, .ref aL, .ref aP, .ref aD, .int (nI ac), .ref aK, .ref aZ, .ref aG, .ref aB, .int (nI bl), .int bp, .ref aS, .int (nI ((tW T).length))])), pts aT (.inl (G.2.1 0, 20, .inl fT)), pts aS (.inl (G.2.1 0, 5, .inl fS5))] H → va_S (Fz F s.heap.size) s.heap H locs → lv_has ls 4 [(3, .int (nI k)), (0, .ref mo), (1, .ref a), (2, .int (nI t))] → W p l e ({ frames := 3, cells := 0, slots := 0, locals := 86 } : Room) s m args below meth c H locs (0) (0) QQ (F0 m 18 ls []) := by
        intro fu
        induction fu with
        | zero => intro k hm; exact absurd hm (Nat.not_lt_zero _)
        | succ fu ih18 =>
          intro k hm18 hp18_0 hp18_1 H locs ls hSep hS hl
          refine lv_iload_n hx hb dX4_canTell_18 rfl (lv_at hl 0 rfl) ?_
          refine lv_aload_n hx hb dX4_canTell_19 rfl (lv_at hl 1 rfl) ?_
          refine va_get (D := G.1) (ci := 3) (v := .int (nI ((tW T).length))) (C := RX4) (T := TX4) (N := 16) hx hb hts in_X4 hown hK (hSep.cel (k := 1) rfl) 0 rfl rfl 15 (by decide) (hts _ q1488) (fun _ h9 => h9) rfl dX4_canTell_20 ?_
          refine n_icmp_ge (tgt := 48) hx hb (by omega) (by omega) dX4_canTell_23 (by decide) (fun c23 => ?_) (fun c23 => ?_)
          · obtain rfl : k = (tW T).length := by omega
            refine lv_iconst (v := (nI 1)) hx hb dX4_canTell_48 (by decide) ?_
            rw [hQ]
            exact r_z (r := (nI 1)) (u := (fS5, ((tW T).length))) hx hb hr (by decide) (by have h9 : gCanTell g T t = true := decide_eq_true ⟨c3, hnn, fun w hw => by obtain ⟨j, hj, e9⟩ := mem_getD hw; rw [← e9]; exact hp18_1 j hj⟩; rw [h9]; exact ⟨rfl, fun _ => ⟨hR.1, rfl⟩⟩) (hSep.pick [1, 2, 3, 0] rfl rfl) hS (by first | exact Nat.le_of_ble_eq_true rfl | omega | (dsimp only; omega)) (by first | exact Nat.le_of_ble_eq_true rfl | omega | (dsimp only; omega)) dX4_canTell_49 hlocks
          · refine lv_aload_n hx hb dX4_canTell_26 rfl (lv_at hl 2 rfl) ?_
            refine lv_iload_n hx hb dX4_canTell_27 rfl (lv_at hl 3 rfl) ?_
            refine lv_aload_n hx hb dX4_canTell_28 rfl (lv_at hl 1 rfl) ?_
            refine va_get (D := G.1) (ci := 3) (v := .ref aS) (C := RX4) (T := TX4) (N := 16) hx hb hts in_X4 hown hK (hSep.cel (k := 1) rfl) 0 rfl rfl 14 (by decide) (hts _ q1487) (fun _ h9 => h9) rfl dX4_canTell_29 ?_
            refine lv_iload_n hx hb dX4_canTell_32 rfl (lv_at hl 0 rfl) ?_
            refine n_iald (i := k) hx hb hK (hSep.cel (k := 3) rfl) 0 rfl (by omega) (by omega) dX4_canTell_33 ?_
            refine n_eq (y := (nI ((tW T).getD k 0))) (hR.1 k (by omega)) ?_
            have hFk_4 : ∀ q, Fz (fun _ => False) H.size q → (Fz F s.heap.size) q := fun q h => by rcases h with h | h; exact h.elim; exact Fz.new (Nat.le_trans hS.1 h)
            have hPk_4 : Sep G.1 clA (Fz (fun _ => False) H.size) [] H := sp_nil
            have hJk_4 := sp_nilJ (F := (fun _ => False)) hSep (fun _ => id) hFk_4
            refine c_i (va_runS (As := [.ref a, .int (nI t), .int (nI ((tW T).getD k 0))]) (rest := []) ⟨hx, hb, hml, hown, hts⟩ (m_X4_isForbidden l G H.size a f g t ((tW T).getD k 0) (by first | assumption | omega) (by first | assumption | omega) (by first | assumption | omega) (by have h9 := getD_lt hse.2.2 (k := k) (by omega); omega)) (va_cwS 3 hts (lw_S q1581 q1582 q44 q1583) rfl rfl rfl (by decide +kernel) ⟨Nat.le_of_ble_eq_true rfl, Nat.le_of_ble_eq_true rfl⟩) (sp_preS hE hS hFk_4 hPk_4 (hSep.cel (k := 0) rfl)) rfl rfl hl.1 rfl (lv_room (Nat.le_of_ble_eq_true rfl)) dX4_canTell_34 ⟨by first | exact Nat.le_of_ble_eq_true rfl | omega | (dsimp only; omega), by first | exact Nat.le_of_ble_eq_true rfl | omega | (dsimp only; omega)⟩) hS hFk_4 hJk_4 (fun r_5 u_6 H locs hpk_4 hSep hS hzk_4 => ?_)
            obtain rfl : r_5 = (bI (decide (((tW T).getD k 0) ∈ gB g t))) := hpk_4
            refine W.cs (cells' := 0) (slots' := 0) rfl rfl ?_
            have hSep : Sep G.1 clA (Fz F s.heap.size) [pts a (.inl (G.2.1 0, 89, .inl f)), pts mo (.inr (3, [.int fR, .ref aT, .int (nI zs), .ref aN, .ref aL, .ref aP, .ref aD, .int (nI ac), .ref aK, .ref aZ, .ref aG, .ref aB, .int (nI bl), .int bp, .ref aS, .int (nI ((tW T).length))])), pts aT (.inl (G.2.1 0, 20, .inl fT)), pts aS (.inl (G.2.1 0, 5, .inl fS5))] H := hSep
            refine b_if_eq (tgt := 42) hx hb dX4_canTell_37 (by decide) (fun c37 => ?_) (fun c37 => ?_)
            · refine lv_iinc (v := (nI (k + 1))) (lv' := [(3, .int (nI (k + 1))), (0, .ref mo), (1, .ref a), (2, .int (nI t))]) hx hb dX4_canTell_42 hl (k := 0) rfl (nI_inc k 1) (by decide) rfl (fun ls hl => ?_)
              refine lv_goto (tgt := 18) hx hb dX4_canTell_45 (by decide) ?_
              exact ih18 (k + 1) (by omega) (by omega) (fun j h => by rcases Nat.lt_succ_iff_lt_or_eq.mp h with z | z; exact hp18_1 j z; rw [z]; exact of_decide_eq_false c37) _ _ _ hSep hS (lv_sub hl [0, 1, 2, 3] rfl)
            · refine lv_iconst (v := (nI 0)) hx hb dX4_canTell_40 (by decide) ?_
              rw [hQ]
              exact r_z (r := (nI 0)) (u := (fS5, ((tW T).length))) hx hb hr (by decide) (by have h9 : gCanTell g T t = false := decide_eq_false (fun h => h.2.2 _ (getD_mem (by omega)) (of_decide_eq_true c37)); rw [h9]; exact ⟨rfl, fun h => (by cases h)⟩) (hSep.pick [1, 2, 3, 0] rfl rfl) hS (by first | exact Nat.le_of_ble_eq_true rfl | omega | (dsimp only; omega)) (by first | exact Nat.le_of_ble_eq_true rfl | omega | (dsimp only; omega)) dX4_canTell_41 hlocks
      exact L18 ((tW T).length - 0 + 1) 0 (Nat.lt_succ_self _) (Nat.zero_le _) (fun j h => absurd h (Nat.not_lt_zero _)) _ _ _ hSep hS (lv_sub hl [0, 1, 2, 3] rfl)
    · refine lv_iconst (v := (nI 0)) hx hb dX4_canTell_14 (by decide) ?_
      rw [hQ]
      exact r_z (r := (nI 0)) (u := (fS5, tl5)) hx hb hr (by decide) (by have h9 : gCanTell g T t = false := decide_eq_false (fun h => by first | exact h.1 c3 | exact c11 ((errI_none (by omega)).mpr h.2.1)); rw [h9]; exact ⟨rfl, fun h => (by cases h)⟩) (hSep.pick [1, 2, 3, 0] rfl rfl) hS (by first | exact Nat.le_of_ble_eq_true rfl | omega | (dsimp only; omega)) (by first | exact Nat.le_of_ble_eq_true rfl | omega | (dsimp only; omega)) dX4_canTell_15 hlocks

set_option maxHeartbeats 600000 in
set_option maxRecDepth 100000 in
theorem m_X4_canTellNow (l : Launch) (G : EVT) (F : Nat → Prop) (sz : Nat) (mo : Nat) (fR : Int32) (aT : Nat) (zs : Nat) (aN : Nat) (aL : Nat) (aP : Nat) (aD : Nat) (ac : Nat) (aK : Nat) (aZ : Nat) (aG : Nat) (aB : Nat) (bl : Nat) (bp : Int32) (aS : Nat) (tl : Nat) (T : List Nat) (fT : Nat → Int32) (a : Nat) (f : Nat → Int32) (g : GS) (fS : Nat → Int32) (hT : Pre fT T) (hz : zs = T.length) (h20 : T.length ≤ 20) (h256 : ∀ w ∈ T, w < 256) (he : Enc f g) (ho : gOk g) : Met l yX4_canTellNow (ws_ yX4_canTellNow cX4_canTellNow 2 (some .boolean)) ({ frames := 4, cells := 0, slots := 0, locals := 109 } : Room) (SPc G F sz [.ref mo, .ref a] [pts mo (.inr (3, [.int fR, .ref aT, .int (nI zs), .ref aN, .ref aL, .ref aP, .ref aD, .int (nI ac), .ref aK, .ref aZ, .ref aG, .ref aB, .int (nI bl), .int bp, .ref aS, .int (nI tl)])), pts aT (.inl (G.2.1 0, 20, .inl fT)), pts aS (.inl (G.2.1 0, 5, .inl fS)), pts a (.inl (G.2.1 0, 89, .inl f))] (fun _ => True)) (SQi G F sz (fun (r : Int32) (u : (Nat → Int32) × Nat) => r = (bI (gCanTellN g T)) ∧ (gCanTellN g T = true → Pre u.1 (tW T) ∧ u.2 = (tW T).length)) (fun (u : (Nat → Int32) × Nat) => [pts mo (.inr (3, [.int fR, .ref aT, .int (nI zs), .ref aN, .ref aL, .ref aP, .ref aD, .int (nI ac), .ref aK, .ref aZ, .ref aG, .ref aB, .int (nI bl), .int bp, .ref aS, .int (nI u.2)])), pts aT (.inl (G.2.1 0, 20, .inl fT)), pts aS (.inl (G.2.1 0, 5, .inl u.1)), pts a (.inl (G.2.1 0, 89, .inl f))])) (0) (0) (Fz F sz) := by
  refine sp_of RX4 (by decide) rfl (Nat.le_of_ble_eq_true rfl) ?_
  intro p e s m args below meth c ls QQ hx hb hr hts hown hlocks hml hnm hsz hSep hΦ hE hS hl hQ
  subst hsz
  have hK := hE.1
  have hl : lv_has ls 2 [(0, .ref mo), (1, .ref a)] := hl
  have hgt := gTurn_lt g
  refine lv_aload_n hx hb dX4_canTellNow_0 rfl (lv_at hl 1 rfl) ?_
  have hFk_1 : ∀ q, Fz (fun _ => False) s.heap.size q → (Fz F s.heap.size) q := fun q h => by rcases h with h | h; exact h.elim; exact Fz.new (Nat.le_trans hS.1 h)
  have hPk_1 : Sep G.1 clA (Fz (fun _ => False) s.heap.size) [] s.heap := sp_nil
  have hJk_1 := sp_nilJ (F := (fun _ => False)) hSep (fun _ => id) hFk_1
  refine c_i (va_runS (As := [.ref a]) (rest := []) ⟨hx, hb, hml, hown, hts⟩ (m_X4_isOn l G s.heap.size a f g (by first | assumption | omega)) (va_cwS 1 hts (lw_S q1630 q1631 q44 q1632) rfl rfl rfl (by decide +kernel) ⟨Nat.le_of_ble_eq_true rfl, Nat.le_of_ble_eq_true rfl⟩) (sp_preS hE hS hFk_1 hPk_1 (hSep.cel (k := 3) rfl)) rfl rfl hl.1 rfl (lv_room (Nat.le_of_ble_eq_true rfl)) dX4_canTellNow_1 ⟨by first | exact Nat.le_of_ble_eq_true rfl | omega | (dsimp only; omega), by first | exact Nat.le_of_ble_eq_true rfl | omega | (dsimp only; omega)⟩) hS hFk_1 hJk_1 (fun r_2 u_3 H locs hpk_1 hSep hS hzk_1 => ?_)
  obtain rfl : r_2 = (bI (gOn g)) := hpk_1
  refine W.cs (cells' := 0) (slots' := 0) rfl rfl ?_
  have hSep : Sep G.1 clA (Fz F s.heap.size) [pts mo (.inr (3, [.int fR, .ref aT, .int (nI zs), .ref aN, .ref aL, .ref aP, .ref aD, .int (nI ac), .ref aK, .ref aZ, .ref aG, .ref aB, .int (nI bl), .int bp, .ref aS, .int (nI tl)])), pts aT (.inl (G.2.1 0, 20, .inl fT)), pts aS (.inl (G.2.1 0, 5, .inl fS)), pts a (.inl (G.2.1 0, 89, .inl f))] H := hSep
  refine b_if_eq (tgt := 28) hx hb dX4_canTellNow_4 (by decide) (fun c4 => ?_) (fun c4 => ?_)
  · refine lv_iconst (v := (nI 0)) hx hb dX4_canTellNow_28 (by decide) ?_
    rw [hQ]
    exact r_z (r := (nI 0)) (u := (fS, tl)) hx hb hr (by decide) (by unfold gCanTellN; first | (rw [show gOn g = false from c4]; exact ⟨rfl, fun h => (by cases h)⟩) | (rw [decide_eq_false (show ¬ g.1 2 = nI 0 from c10), Bool.false_and, Bool.and_false]; exact ⟨rfl, fun h => (by cases h)⟩) | (rw [show gCanTell g T (gTurn g) = false from c21, Bool.and_false, Bool.and_false]; exact ⟨rfl, fun h => (by cases h)⟩) | (rw [c4, decide_eq_true (show g.1 2 = nI 0 from c10), c21]; exact ⟨rfl, fun _ => hR c21⟩)) hSep hS (by first | exact Nat.le_of_ble_eq_true rfl | omega | (dsimp only; omega)) (by first | exact Nat.le_of_ble_eq_true rfl | omega | (dsimp only; omega)) dX4_canTellNow_29 hlocks
  · refine lv_aload_n hx hb dX4_canTellNow_7 rfl (lv_at hl 1 rfl) ?_
    refine lv_iconst (v := (nI 2)) hx hb dX4_canTellNow_8 (by decide) ?_
    refine n_iald (i := 2) hx hb hK (hSep.cel (k := 3) rfl) 0 rfl (by omega) (by omega) dX4_canTellNow_9 ?_
    refine n_eq (y := (g.1 2)) (he.num (by decide)) ?_
    refine lv_if_ne (tgt := 28) hx hb dX4_canTellNow_10 (by decide) (fun c10 => ?_) (fun c10 => ?_)
    · refine lv_iconst (v := (nI 0)) hx hb dX4_canTellNow_28 (by decide) ?_
      rw [hQ]
      exact r_z (r := (nI 0)) (u := (fS, tl)) hx hb hr (by decide) (by unfold gCanTellN; first | (rw [show gOn g = false from c4]; exact ⟨rfl, fun h => (by cases h)⟩) | (rw [decide_eq_false (show ¬ g.1 2 = nI 0 from c10), Bool.false_and, Bool.and_false]; exact ⟨rfl, fun h => (by cases h)⟩) | (rw [show gCanTell g T (gTurn g) = false from c21, Bool.and_false, Bool.and_false]; exact ⟨rfl, fun h => (by cases h)⟩) | (rw [c4, decide_eq_true (show g.1 2 = nI 0 from c10), c21]; exact ⟨rfl, fun _ => hR c21⟩)) hSep hS (by first | exact Nat.le_of_ble_eq_true rfl | omega | (dsimp only; omega)) (by first | exact Nat.le_of_ble_eq_true rfl | omega | (dsimp only; omega)) dX4_canTellNow_29 hlocks
    · refine lv_aload_n hx hb dX4_canTellNow_13 rfl (lv_at hl 0 rfl) ?_
      refine lv_aload_n hx hb dX4_canTellNow_14 rfl (lv_at hl 1 rfl) ?_
      refine lv_aload_n hx hb dX4_canTellNow_15 rfl (lv_at hl 1 rfl) ?_
      refine lv_iconst (v := (nI 1)) hx hb dX4_canTellNow_16 (by decide) ?_
      refine n_iald (i := 1) hx hb hK (hSep.cel (k := 3) rfl) 0 rfl (by omega) (by omega) dX4_canTellNow_17 ?_
      refine n_eq (y := (nI (gTurn g))) ((he.num (by decide)).trans (gTurn_eq ho)) ?_
      obtain ⟨Fk_4, hFk_4, hPk_4, hJk_4⟩ := hSep.cut (Pc := [pts mo (.inr (3, [.int fR, .ref aT, .int (nI zs), .ref aN, .ref aL, .ref aP, .ref aD, .int (nI ac), .ref aK, .ref aZ, .ref aG, .ref aB, .int (nI bl), .int bp, .ref aS, .int (nI tl)])), pts aT (.inl (G.2.1 0, 20, .inl fT)), pts aS (.inl (G.2.1 0, 5, .inl fS)), pts a (.inl (G.2.1 0, 89, .inl f))]) (Pr := []) (fun q h => Fz.new (Nat.le_trans hS.1 h)) [0, 1, 2, 3] [] rfl rfl rfl rfl (by decide)
      refine c_i (va_runV (As := [.ref a, .int (nI (gTurn g))]) (rest := []) ⟨hx, hb, hml, hown, hts⟩ (m_X4_canTell l G Fk_4 H.size mo fR aT zs aN aL aP aD ac aK aZ aG aB bl bp aS tl T fT a f g (gTurn g) fS (by first | assumption | omega) (by first | assumption | omega) (by first | assumption | omega) (by first | assumption | omega) (by first | assumption | omega) (by first | assumption | omega) (by first | assumption | omega)) (cwV 2 hts (lw_V q1633 q1635 qs26 q44 q1636) rfl rfl rfl (by decide +kernel) ⟨Nat.le_of_ble_eq_true rfl, Nat.le_of_ble_eq_true rfl⟩) (sp_preV hE hS hFk_4 hPk_4 trivial (sp_recv (ci := 3) hK (hSep.cel (k := 0) rfl) rfl)) rfl rfl hl.1 rfl (lv_room (Nat.le_of_ble_eq_true rfl)) dX4_canTellNow_18 ⟨by first | exact Nat.le_of_ble_eq_true rfl | omega | (dsimp only; omega), by first | exact Nat.le_of_ble_eq_true rfl | omega | (dsimp only; omega)⟩) hS hFk_4 hJk_4 (fun r_5 u_6 H locs hpk_4 hSep hS hzk_4 => ?_)
      obtain ⟨fS4_7, tl4_8⟩ := u_6
      obtain ⟨rfl, hpk_4⟩ : r_5 = (bI (gCanTell g T (gTurn g))) ∧ (gCanTell g T (gTurn g) = true → Pre fS4_7 (tW T) ∧ tl4_8 = (tW T).length) := hpk_4
      refine W.cs (cells' := 0) (slots' := 0) rfl rfl ?_
      have hSep : Sep G.1 clA (Fz F s.heap.size) [pts mo (.inr (3, [.int fR, .ref aT, .int (nI zs), .ref aN, .ref aL, .ref aP, .ref aD, .int (nI ac), .ref aK, .ref aZ, .ref aG, .ref aB, .int (nI bl), .int bp, .ref aS, .int (nI tl4_8)])), pts aT (.inl (G.2.1 0, 20, .inl fT)), pts aS (.inl (G.2.1 0, 5, .inl fS4_7)), pts a (.inl (G.2.1 0, 89, .inl f))] H := hSep
      have hR := hpk_4
      refine b_if_eq (tgt := 28) hx hb dX4_canTellNow_21 (by decide) (fun c21 => ?_) (fun c21 => ?_)
      · refine lv_iconst (v := (nI 0)) hx hb dX4_canTellNow_28 (by decide) ?_
        rw [hQ]
        exact r_z (r := (nI 0)) (u := (fS4_7, tl4_8)) hx hb hr (by decide) (by unfold gCanTellN; first | (rw [show gOn g = false from c4]; exact ⟨rfl, fun h => (by cases h)⟩) | (rw [decide_eq_false (show ¬ g.1 2 = nI 0 from c10), Bool.false_and, Bool.and_false]; exact ⟨rfl, fun h => (by cases h)⟩) | (rw [show gCanTell g T (gTurn g) = false from c21, Bool.and_false, Bool.and_false]; exact ⟨rfl, fun h => (by cases h)⟩) | (rw [c4, decide_eq_true (show g.1 2 = nI 0 from c10), c21]; exact ⟨rfl, fun _ => hR c21⟩)) hSep hS (by first | exact Nat.le_of_ble_eq_true rfl | omega | (dsimp only; omega)) (by first | exact Nat.le_of_ble_eq_true rfl | omega | (dsimp only; omega)) dX4_canTellNow_29 hlocks
      · refine lv_iconst (v := (nI 1)) hx hb dX4_canTellNow_24 (by decide) ?_
        refine lv_goto (tgt := 29) hx hb dX4_canTellNow_25 (by decide) ?_
        rw [hQ]
        exact r_z (r := (nI 1)) (u := (fS4_7, tl4_8)) hx hb hr (by decide) (by unfold gCanTellN; first | (rw [show gOn g = false from c4]; exact ⟨rfl, fun h => (by cases h)⟩) | (rw [decide_eq_false (show ¬ g.1 2 = nI 0 from c10), Bool.false_and, Bool.and_false]; exact ⟨rfl, fun h => (by cases h)⟩) | (rw [show gCanTell g T (gTurn g) = false from c21, Bool.and_false, Bool.and_false]; exact ⟨rfl, fun h => (by cases h)⟩) | (rw [c4, decide_eq_true (show g.1 2 = nI 0 from c10), c21]; exact ⟨rfl, fun _ => hR c21⟩)) hSep hS (by first | exact Nat.le_of_ble_eq_true rfl | omega | (dsimp only; omega)) (by first | exact Nat.le_of_ble_eq_true rfl | omega | (dsimp only; omega)) dX4_canTellNow_29 hlocks

set_option maxHeartbeats 600000 in
set_option maxRecDepth 100000 in
theorem m_X4_turn (l : Launch) (G : EVT) (F : Nat → Prop) (sz : Nat) (mo : Nat) (fR : Int32) (aT : Nat) (zs : Nat) (aN : Nat) (aL : Nat) (aP : Nat) (aD : Nat) (ac : Nat) (aK : Nat) (aZ : Nat) (aG : Nat) (aB : Nat) (bl : Nat) (bp : Int32) (aS : Nat) (tl : Nat) (r1 : Nat) (fL : Nat → Int32) (g : GS) (fS : Nat → Int32) (fG : Nat → Int32) (fB : Nat → Int32) (fP : Nat → Int32) (he : Enc fL g) (ho : gOk g) (hr1 : r1 < 2147483648) : Met l yX4_turn (ws_ yX4_turn cX4_turn 2 none) ({ frames := 6, cells := 0, slots := 0, locals := 159 } : Room) (SPc G F sz [.ref mo, .int (nI r1)] [pts mo (.inr (3, [.int fR, .ref aT, .int (nI zs), .ref aN, .ref aL, .ref aP, .ref aD, .int (nI ac), .ref aK, .ref aZ, .ref aG, .ref aB, .int (nI bl), .int bp, .ref aS, .int (nI tl)])), pts aL (.inl (G.2.1 0, 89, .inl fL)), pts aS (.inl (G.2.1 0, 5, .inl fS)), pts aG (.inl (G.2.1 0, 18, .inl fG)), pts aB (.inl (G.2.1 0, 5, .inl fB)), pts aP (.inl (G.2.1 0, 89, .inl fP))] (fun _ => True)) (SQv G F sz (fun (u : (Nat → Int32) × Nat × Int32 × Nat × (Nat → Int32) × (Nat → Int32) × (Nat → Int32) × (Nat → Int32)) => Enc u.1 (gStir g r1)) (fun (u : (Nat → Int32) × Nat × Int32 × Nat × (Nat → Int32) × (Nat → Int32) × (Nat → Int32) × (Nat → Int32)) => [pts mo (.inr (3, [.int fR, .ref aT, .int (nI zs), .ref aN, .ref aL, .ref aP, .ref aD, .int (nI ac), .ref aK, .ref aZ, .ref aG, .ref aB, .int (nI u.2.1), .int u.2.2.1, .ref aS, .int (nI u.2.2.2.1)])), pts aL (.inl (G.2.1 0, 89, .inl u.1)), pts aS (.inl (G.2.1 0, 5, .inl u.2.2.2.2.1)), pts aG (.inl (G.2.1 0, 18, .inl u.2.2.2.2.2.1)), pts aB (.inl (G.2.1 0, 5, .inl u.2.2.2.2.2.2.1)), pts aP (.inl (G.2.1 0, 89, .inl u.2.2.2.2.2.2.2))])) (0) (0) (Fz F sz) := by
  refine sp_of RX4 (by decide) rfl (Nat.le_of_ble_eq_true rfl) ?_
  intro p e s m args below meth c ls QQ hx hb hr hts hown hlocks hml hnm hsz hSep hΦ hE hS hl hQ
  subst hsz
  have hK := hE.1
  have hl : lv_has ls 2 [(0, .ref mo), (1, .int (nI r1))] := hl
  refine lv_iload_n hx hb dX4_turn_0 rfl (lv_at hl 1 rfl) ?_
  refine lv_bipush (v := (nI 8)) hx hb dX4_turn_1 (by decide) ?_
  refine n_irem hx hb (by omega) (by omega) (by omega) dX4_turn_3 ?_
  refine n_if_ne (tgt := 18) hx hb (by omega) dX4_turn_4 (by decide) (fun c4 => ?_) (fun c4 => ?_)
  · refine lv_iload_n hx hb dX4_turn_18 rfl (lv_at hl 1 rfl) ?_
    refine lv_bipush (v := (nI 8)) hx hb dX4_turn_19 (by decide) ?_
    refine n_irem hx hb (by omega) (by omega) (by omega) dX4_turn_21 ?_
    refine lv_iconst (v := (nI 1)) hx hb dX4_turn_22 (by decide) ?_
    refine n_icmp_ne (tgt := 82) hx hb (by omega) (by omega) dX4_turn_23 (by decide) (fun c23 => ?_) (fun c23 => ?_)
    · refine lv_aload_n hx hb dX4_turn_82 rfl (lv_at hl 0 rfl) ?_
      refine lv_aload_n hx hb dX4_turn_83 rfl (lv_at hl 0 rfl) ?_
      refine va_get (D := G.1) (ci := 3) (v := .ref aL) (C := RX4) (T := TX4) (N := 16) hx hb hts in_X4 hown hK (hSep.cel (k := 0) rfl) 0 rfl rfl 4 (by decide) (hts _ q1477) (fun _ h9 => h9) rfl dX4_turn_84 ?_
      obtain ⟨Fk_1, hFk_1, hPk_1, hJk_1⟩ := hSep.cut (Pc := [pts mo (.inr (3, [.int fR, .ref aT, .int (nI zs), .ref aN, .ref aL, .ref aP, .ref aD, .int (nI ac), .ref aK, .ref aZ, .ref aG, .ref aB, .int (nI bl), .int bp, .ref aS, .int (nI tl)])), pts aL (.inl (G.2.1 0, 89, .inl fL)), pts aS (.inl (G.2.1 0, 5, .inl fS)), pts aG (.inl (G.2.1 0, 18, .inl fG)), pts aB (.inl (G.2.1 0, 5, .inl fB)), pts aP (.inl (G.2.1 0, 89, .inl fP))]) (Pr := []) (fun q h => Fz.new (Nat.le_trans hS.1 h)) [0, 1, 2, 3, 4, 5] [] rfl rfl rfl rfl (by decide)
      refine c_i (va_runV (As := [.ref aL]) (rest := []) ⟨hx, hb, hml, hown, hts⟩ (m_X4_playOn l G Fk_1 s.heap.size mo fR aT zs aN aL aP aD ac aK aZ aG aB bl bp aS tl aL fL g fS fG fB fP (by first | assumption | omega) (by first | assumption | omega)) (cwV 1 hts (lw_V q1678 q1680 qs29 q44 q1681) rfl rfl rfl (by decide +kernel) ⟨Nat.le_of_ble_eq_true rfl, Nat.le_of_ble_eq_true rfl⟩) (sp_preV hE hS hFk_1 hPk_1 trivial (sp_recv (ci := 3) hK (hSep.cel (k := 0) rfl) rfl)) rfl rfl hl.1 rfl (lv_room (Nat.le_of_ble_eq_true rfl)) dX4_turn_87 ⟨by first | exact Nat.le_of_ble_eq_true rfl | omega | (dsimp only; omega), by first | exact Nat.le_of_ble_eq_true rfl | omega | (dsimp only; omega)⟩) hS hFk_1 hJk_1 (fun r_2 u_3 H locs hpk_1 hSep hS hzk_1 => ?_)
      obtain ⟨f5_4, bl4_5, bp4_6, tl4_7, fS4_8, fG4_9, fB4_10, fP4_11⟩ := u_3
      obtain ⟨rfl, hpk_1⟩ : r_2 = ((gPlay g).2) ∧ Enc f5_4 (gPlay g).1 ∧ ¬ (gPlay g).2 < -1 := hpk_1
      refine W.cs (cells' := 0) (slots' := 0) rfl rfl ?_
      have hSep : Sep G.1 clA (Fz F s.heap.size) [pts mo (.inr (3, [.int fR, .ref aT, .int (nI zs), .ref aN, .ref aL, .ref aP, .ref aD, .int (nI ac), .ref aK, .ref aZ, .ref aG, .ref aB, .int (nI bl4_5), .int bp4_6, .ref aS, .int (nI tl4_7)])), pts aL (.inl (G.2.1 0, 89, .inl f5_4)), pts aS (.inl (G.2.1 0, 5, .inl fS4_8)), pts aG (.inl (G.2.1 0, 18, .inl fG4_9)), pts aB (.inl (G.2.1 0, 5, .inl fB4_10)), pts aP (.inl (G.2.1 0, 89, .inl fP4_11))] H := hSep
      have hf8 := hpk_1
      refine lv_pop hx hb dX4_turn_90 rfl ?_
      rw [hQ]
      exact r_v (u := (f5_4, bl4_5, bp4_6, tl4_7, fS4_8, fG4_9, fB4_10, fP4_11)) hx hb hr (by unfold gStir; first | (rw [if_pos (show r1 % 8 = 0 from c4)]; exact hf8) | (rw [if_neg c4, if_neg (fun h => (by first | exact c23 h.1 | exact c33 h.2))]; exact hf8.1) | (rw [if_neg c4, if_pos ⟨c23, c33⟩, if_pos c50]; exact hf8) | (rw [if_neg c4, if_pos ⟨c23, c33⟩, if_neg (by rw [c50]; decide)]; exact hf8)) hSep hS (by first | exact Nat.le_of_ble_eq_true rfl | omega | (dsimp only; omega)) (by first | exact Nat.le_of_ble_eq_true rfl | omega | (dsimp only; omega)) dX4_turn_91 hlocks
    · refine lv_aload_n hx hb dX4_turn_26 rfl (lv_at hl 0 rfl) ?_
      refine va_get (D := G.1) (ci := 3) (v := .ref aL) (C := RX4) (T := TX4) (N := 16) hx hb hts in_X4 hown hK (hSep.cel (k := 0) rfl) 0 rfl rfl 4 (by decide) (hts _ q1477) (fun _ h9 => h9) rfl dX4_turn_27 ?_
      refine lv_iconst (v := (nI 2)) hx hb dX4_turn_30 (by decide) ?_
      refine n_iald (i := 2) hx hb hK (hSep.cel (k := 1) rfl) 0 rfl (by omega) (by omega) dX4_turn_31 ?_
      refine n_eq (y := (g.1 2)) (he.num (by decide)) ?_
      refine lv_iconst (v := (nI 1)) hx hb dX4_turn_32 (by decide) ?_
      refine lv_icmp_ne (tgt := 82) hx hb dX4_turn_33 (by decide) (fun c33 => ?_) (fun c33 => ?_)
      · refine lv_aload_n hx hb dX4_turn_82 rfl (lv_at hl 0 rfl) ?_
        refine lv_aload_n hx hb dX4_turn_83 rfl (lv_at hl 0 rfl) ?_
        refine va_get (D := G.1) (ci := 3) (v := .ref aL) (C := RX4) (T := TX4) (N := 16) hx hb hts in_X4 hown hK (hSep.cel (k := 0) rfl) 0 rfl rfl 4 (by decide) (hts _ q1477) (fun _ h9 => h9) rfl dX4_turn_84 ?_
        obtain ⟨Fk_12, hFk_12, hPk_12, hJk_12⟩ := hSep.cut (Pc := [pts mo (.inr (3, [.int fR, .ref aT, .int (nI zs), .ref aN, .ref aL, .ref aP, .ref aD, .int (nI ac), .ref aK, .ref aZ, .ref aG, .ref aB, .int (nI bl), .int bp, .ref aS, .int (nI tl)])), pts aL (.inl (G.2.1 0, 89, .inl fL)), pts aS (.inl (G.2.1 0, 5, .inl fS)), pts aG (.inl (G.2.1 0, 18, .inl fG)), pts aB (.inl (G.2.1 0, 5, .inl fB)), pts aP (.inl (G.2.1 0, 89, .inl fP))]) (Pr := []) (fun q h => Fz.new (Nat.le_trans hS.1 h)) [0, 1, 2, 3, 4, 5] [] rfl rfl rfl rfl (by decide)
        refine c_i (va_runV (As := [.ref aL]) (rest := []) ⟨hx, hb, hml, hown, hts⟩ (m_X4_playOn l G Fk_12 s.heap.size mo fR aT zs aN aL aP aD ac aK aZ aG aB bl bp aS tl aL fL g fS fG fB fP (by first | assumption | omega) (by first | assumption | omega)) (cwV 1 hts (lw_V q1678 q1680 qs29 q44 q1681) rfl rfl rfl (by decide +kernel) ⟨Nat.le_of_ble_eq_true rfl, Nat.le_of_ble_eq_true rfl⟩) (sp_preV hE hS hFk_12 hPk_12 trivial (sp_recv (ci := 3) hK (hSep.cel (k := 0) rfl) rfl)) rfl rfl hl.1 rfl (lv_room (Nat.le_of_ble_eq_true rfl)) dX4_turn_87 ⟨by first | exact Nat.le_of_ble_eq_true rfl | omega | (dsimp only; omega), by first | exact Nat.le_of_ble_eq_true rfl | omega | (dsimp only; omega)⟩) hS hFk_12 hJk_12 (fun r_13 u_14 H locs hpk_12 hSep hS hzk_12 => ?_)
        obtain ⟨f5_15, bl4_16, bp4_17, tl4_18, fS4_19, fG4_20, fB4_21, fP4_22⟩ := u_14
        obtain ⟨rfl, hpk_12⟩ : r_13 = ((gPlay g).2) ∧ Enc f5_15 (gPlay g).1 ∧ ¬ (gPlay g).2 < -1 := hpk_12
        refine W.cs (cells' := 0) (slots' := 0) rfl rfl ?_
        have hSep : Sep G.1 clA (Fz F s.heap.size) [pts mo (.inr (3, [.int fR, .ref aT, .int (nI zs), .ref aN, .ref aL, .ref aP, .ref aD, .int (nI ac), .ref aK, .ref aZ, .ref aG, .ref aB, .int (nI bl4_16), .int bp4_17, .ref aS, .int (nI tl4_18)])), pts aL (.inl (G.2.1 0, 89, .inl f5_15)), pts aS (.inl (G.2.1 0, 5, .inl fS4_19)), pts aG (.inl (G.2.1 0, 18, .inl fG4_20)), pts aB (.inl (G.2.1 0, 5, .inl fB4_21)), pts aP (.inl (G.2.1 0, 89, .inl fP4_22))] H := hSep
        have hf8 := hpk_12
        refine lv_pop hx hb dX4_turn_90 rfl ?_
        rw [hQ]
        exact r_v (u := (f5_15, bl4_16, bp4_17, tl4_18, fS4_19, fG4_20, fB4_21, fP4_22)) hx hb hr (by unfold gStir; first | (rw [if_pos (show r1 % 8 = 0 from c4)]; exact hf8) | (rw [if_neg c4, if_neg (fun h => (by first | exact c23 h.1 | exact c33 h.2))]; exact hf8.1) | (rw [if_neg c4, if_pos ⟨c23, c33⟩, if_pos c50]; exact hf8) | (rw [if_neg c4, if_pos ⟨c23, c33⟩, if_neg (by rw [c50]; decide)]; exact hf8)) hSep hS (by first | exact Nat.le_of_ble_eq_true rfl | omega | (dsimp only; omega)) (by first | exact Nat.le_of_ble_eq_true rfl | omega | (dsimp only; omega)) dX4_turn_91 hlocks
      · refine lv_aload_n hx hb dX4_turn_36 rfl (lv_at hl 0 rfl) ?_
        refine va_get (D := G.1) (ci := 3) (v := .ref aL) (C := RX4) (T := TX4) (N := 16) hx hb hts in_X4 hown hK (hSep.cel (k := 0) rfl) 0 rfl rfl 4 (by decide) (hts _ q1477) (fun _ h9 => h9) rfl dX4_turn_37 ?_
        refine lv_iload_n hx hb dX4_turn_40 rfl (lv_at hl 1 rfl) ?_
        refine lv_bipush (v := (nI 8)) hx hb dX4_turn_41 (by decide) ?_
        refine n_idiv hx hb (by omega) (by omega) (by omega) dX4_turn_43 ?_
        refine lv_bipush (v := (nI 18)) hx hb dX4_turn_44 (by decide) ?_
        refine n_irem hx hb (by omega) (by omega) (by omega) dX4_turn_46 ?_
        have hFk_23 : ∀ q, Fz (fun _ => False) s.heap.size q → (Fz F s.heap.size) q := fun q h => by rcases h with h | h; exact h.elim; exact Fz.new (Nat.le_trans hS.1 h)
        have hPk_23 : Sep G.1 clA (Fz (fun _ => False) s.heap.size) [] s.heap := sp_nil
        have hJk_23 := sp_nilJ (F := (fun _ => False)) hSep (fun _ => id) hFk_23
        refine c_i (va_runS (As := [.ref aL, .int (nI ((r1 / 8) % 18))]) (rest := []) ⟨hx, hb, hml, hown, hts⟩ (m_X4_canForbid l G s.heap.size aL fL g ((r1 / 8) % 18) (by first | assumption | omega) (by first | assumption | omega) (by first | assumption | omega)) (va_cwS 2 hts (lw_S q1655 q1656 q44 q1657) rfl rfl rfl (by decide +kernel) ⟨Nat.le_of_ble_eq_true rfl, Nat.le_of_ble_eq_true rfl⟩) (sp_preS hE hS hFk_23 hPk_23 (hSep.cel (k := 1) rfl)) rfl rfl hl.1 rfl (lv_room (Nat.le_of_ble_eq_true rfl)) dX4_turn_47 ⟨by first | exact Nat.le_of_ble_eq_true rfl | omega | (dsimp only; omega), by first | exact Nat.le_of_ble_eq_true rfl | omega | (dsimp only; omega)⟩) hS hFk_23 hJk_23 (fun r_24 u_25 H locs hpk_23 hSep hS hzk_23 => ?_)
        obtain rfl : r_24 = (bI (gCan g ((r1 / 8) % 18))) := hpk_23
        refine W.cs (cells' := 0) (slots' := 0) rfl rfl ?_
        have hSep : Sep G.1 clA (Fz F s.heap.size) [pts mo (.inr (3, [.int fR, .ref aT, .int (nI zs), .ref aN, .ref aL, .ref aP, .ref aD, .int (nI ac), .ref aK, .ref aZ, .ref aG, .ref aB, .int (nI bl), .int bp, .ref aS, .int (nI tl)])), pts aL (.inl (G.2.1 0, 89, .inl fL)), pts aS (.inl (G.2.1 0, 5, .inl fS)), pts aG (.inl (G.2.1 0, 18, .inl fG)), pts aB (.inl (G.2.1 0, 5, .inl fB)), pts aP (.inl (G.2.1 0, 89, .inl fP))] H := hSep
        refine b_if_eq (tgt := 71) hx hb dX4_turn_50 (by decide) (fun c50 => ?_) (fun c50 => ?_)
        · refine lv_aload_n hx hb dX4_turn_71 rfl (lv_at hl 0 rfl) ?_
          refine va_get (D := G.1) (ci := 3) (v := .ref aL) (C := RX4) (T := TX4) (N := 16) hx hb hts in_X4 hown hK (hSep.cel (k := 0) rfl) 0 rfl rfl 4 (by decide) (hts _ q1477) (fun _ h9 => h9) rfl dX4_turn_72 ?_
          obtain ⟨Fk_26, hFk_26, hPk_26, hJk_26⟩ := hSep.cut (Pc := [pts aL (.inl (G.2.1 0, 89, .inl fL))]) (Pr := [pts mo (.inr (3, [.int fR, .ref aT, .int (nI zs), .ref aN, .ref aL, .ref aP, .ref aD, .int (nI ac), .ref aK, .ref aZ, .ref aG, .ref aB, .int (nI bl), .int bp, .ref aS, .int (nI tl)])), pts aS (.inl (G.2.1 0, 5, .inl fS)), pts aG (.inl (G.2.1 0, 18, .inl fG)), pts aB (.inl (G.2.1 0, 5, .inl fB)), pts aP (.inl (G.2.1 0, 89, .inl fP))]) (fun q h => Fz.new (Nat.le_trans hS.1 h)) [1] [0, 2, 3, 4, 5] rfl rfl rfl rfl (by decide)
          refine c_i (va_runS (As := [.ref aL]) (rest := []) ⟨hx, hb, hml, hown, hts⟩ (m_X4_doneOn l G Fk_26 H.size aL fL g (by first | assumption | omega) (by first | assumption | omega)) (va_cwS 1 hts (lw_S q1671 q1672 q44 q1673) rfl rfl rfl (by decide +kernel) ⟨Nat.le_of_ble_eq_true rfl, Nat.le_of_ble_eq_true rfl⟩) (sp_preS hE hS hFk_26 hPk_26 trivial) rfl rfl hl.1 rfl (lv_room (Nat.le_of_ble_eq_true rfl)) dX4_turn_75 ⟨by first | exact Nat.le_of_ble_eq_true rfl | omega | (dsimp only; omega), by first | exact Nat.le_of_ble_eq_true rfl | omega | (dsimp only; omega)⟩) hS hFk_26 hJk_26 (fun r_27 u_28 H locs hpk_26 hSep hS hzk_26 => ?_)
          obtain ⟨rfl, hpk_26⟩ : r_27 = (gNextV (gDone g)) ∧ Enc u_28 (gDone g) := hpk_26
          refine W.cs (cells' := 0) (slots' := 0) rfl rfl ?_
          have hSep : Sep G.1 clA (Fz F s.heap.size) [pts mo (.inr (3, [.int fR, .ref aT, .int (nI zs), .ref aN, .ref aL, .ref aP, .ref aD, .int (nI ac), .ref aK, .ref aZ, .ref aG, .ref aB, .int (nI bl), .int bp, .ref aS, .int (nI tl)])), pts aS (.inl (G.2.1 0, 5, .inl fS)), pts aG (.inl (G.2.1 0, 18, .inl fG)), pts aB (.inl (G.2.1 0, 5, .inl fB)), pts aP (.inl (G.2.1 0, 89, .inl fP)), pts aL (.inl (G.2.1 0, 89, .inl u_28))] H := hSep
          have hf8 := hpk_26
          refine lv_pop hx hb dX4_turn_78 rfl ?_
          refine lv_goto (tgt := 91) hx hb dX4_turn_79 (by decide) ?_
          rw [hQ]
          exact r_v (u := (u_28, bl, bp, tl, fS, fG, fB, fP)) hx hb hr (by unfold gStir; first | (rw [if_pos (show r1 % 8 = 0 from c4)]; exact hf8) | (rw [if_neg c4, if_neg (fun h => (by first | exact c23 h.1 | exact c33 h.2))]; exact hf8.1) | (rw [if_neg c4, if_pos ⟨c23, c33⟩, if_pos c50]; exact hf8) | (rw [if_neg c4, if_pos ⟨c23, c33⟩, if_neg (by rw [c50]; decide)]; exact hf8)) (hSep.pick [0, 5, 1, 2, 3, 4] rfl rfl) hS (by first | exact Nat.le_of_ble_eq_true rfl | omega | (dsimp only; omega)) (by first | exact Nat.le_of_ble_eq_true rfl | omega | (dsimp only; omega)) dX4_turn_91 hlocks
        · refine lv_aload_n hx hb dX4_turn_53 rfl (lv_at hl 0 rfl) ?_
          refine va_get (D := G.1) (ci := 3) (v := .ref aL) (C := RX4) (T := TX4) (N := 16) hx hb hts in_X4 hown hK (hSep.cel (k := 0) rfl) 0 rfl rfl 4 (by decide) (hts _ q1477) (fun _ h9 => h9) rfl dX4_turn_54 ?_
          refine lv_iload_n hx hb dX4_turn_57 rfl (lv_at hl 1 rfl) ?_
          refine lv_bipush (v := (nI 8)) hx hb dX4_turn_58 (by decide) ?_
          refine n_idiv hx hb (by omega) (by omega) (by omega) dX4_turn_60 ?_
          refine lv_bipush (v := (nI 18)) hx hb dX4_turn_61 (by decide) ?_
          refine n_irem hx hb (by omega) (by omega) (by omega) dX4_turn_63 ?_
          obtain ⟨Fk_29, hFk_29, hPk_29, hJk_29⟩ := hSep.cut (Pc := [pts aL (.inl (G.2.1 0, 89, .inl fL))]) (Pr := [pts mo (.inr (3, [.int fR, .ref aT, .int (nI zs), .ref aN, .ref aL, .ref aP, .ref aD, .int (nI ac), .ref aK, .ref aZ, .ref aG, .ref aB, .int (nI bl), .int bp, .ref aS, .int (nI tl)])), pts aS (.inl (G.2.1 0, 5, .inl fS)), pts aG (.inl (G.2.1 0, 18, .inl fG)), pts aB (.inl (G.2.1 0, 5, .inl fB)), pts aP (.inl (G.2.1 0, 89, .inl fP))]) (fun q h => Fz.new (Nat.le_trans hS.1 h)) [1] [0, 2, 3, 4, 5] rfl rfl rfl rfl (by decide)
          refine c_i (va_runS (As := [.ref aL, .int (nI ((r1 / 8) % 18))]) (rest := []) ⟨hx, hb, hml, hown, hts⟩ (m_X4_forbidOn l G Fk_29 H.size aL fL g ((r1 / 8) % 18) (by first | assumption | omega) (by first | assumption | omega) (by omega)) (va_cwS 2 hts (lw_S q1658 q1659 q44 q1660) rfl rfl rfl (by decide +kernel) ⟨Nat.le_of_ble_eq_true rfl, Nat.le_of_ble_eq_true rfl⟩) (sp_preS hE hS hFk_29 hPk_29 trivial) rfl rfl hl.1 rfl (lv_room (Nat.le_of_ble_eq_true rfl)) dX4_turn_64 ⟨by first | exact Nat.le_of_ble_eq_true rfl | omega | (dsimp only; omega), by first | exact Nat.le_of_ble_eq_true rfl | omega | (dsimp only; omega)⟩) hS hFk_29 hJk_29 (fun r_30 u_31 H locs hpk_29 hSep hS hzk_29 => ?_)
          obtain ⟨rfl, hpk_29⟩ : r_30 = (nI ((gB (gBan g ((r1 / 8) % 18)) (1 - gTurn g)).length)) ∧ Enc u_31 (gForbid g ((r1 / 8) % 18)) := hpk_29
          refine W.cs (cells' := 0) (slots' := 0) rfl rfl ?_
          have hSep : Sep G.1 clA (Fz F s.heap.size) [pts mo (.inr (3, [.int fR, .ref aT, .int (nI zs), .ref aN, .ref aL, .ref aP, .ref aD, .int (nI ac), .ref aK, .ref aZ, .ref aG, .ref aB, .int (nI bl), .int bp, .ref aS, .int (nI tl)])), pts aS (.inl (G.2.1 0, 5, .inl fS)), pts aG (.inl (G.2.1 0, 18, .inl fG)), pts aB (.inl (G.2.1 0, 5, .inl fB)), pts aP (.inl (G.2.1 0, 89, .inl fP)), pts aL (.inl (G.2.1 0, 89, .inl u_31))] H := hSep
          have hf8 := hpk_29
          refine lv_pop hx hb dX4_turn_67 rfl ?_
          refine lv_goto (tgt := 91) hx hb dX4_turn_68 (by decide) ?_
          rw [hQ]
          exact r_v (u := (u_31, bl, bp, tl, fS, fG, fB, fP)) hx hb hr (by unfold gStir; first | (rw [if_pos (show r1 % 8 = 0 from c4)]; exact hf8) | (rw [if_neg c4, if_neg (fun h => (by first | exact c23 h.1 | exact c33 h.2))]; exact hf8.1) | (rw [if_neg c4, if_pos ⟨c23, c33⟩, if_pos c50]; exact hf8) | (rw [if_neg c4, if_pos ⟨c23, c33⟩, if_neg (by rw [c50]; decide)]; exact hf8)) (hSep.pick [0, 5, 1, 2, 3, 4] rfl rfl) hS (by first | exact Nat.le_of_ble_eq_true rfl | omega | (dsimp only; omega)) (by first | exact Nat.le_of_ble_eq_true rfl | omega | (dsimp only; omega)) dX4_turn_91 hlocks
  · refine lv_aload_n hx hb dX4_turn_7 rfl (lv_at hl 0 rfl) ?_
    refine va_get (D := G.1) (ci := 3) (v := .ref aL) (C := RX4) (T := TX4) (N := 16) hx hb hts in_X4 hown hK (hSep.cel (k := 0) rfl) 0 rfl rfl 4 (by decide) (hts _ q1477) (fun _ h9 => h9) rfl dX4_turn_8 ?_
    obtain ⟨Fk_32, hFk_32, hPk_32, hJk_32⟩ := hSep.cut (Pc := [pts aL (.inl (G.2.1 0, 89, .inl fL))]) (Pr := [pts mo (.inr (3, [.int fR, .ref aT, .int (nI zs), .ref aN, .ref aL, .ref aP, .ref aD, .int (nI ac), .ref aK, .ref aZ, .ref aG, .ref aB, .int (nI bl), .int bp, .ref aS, .int (nI tl)])), pts aS (.inl (G.2.1 0, 5, .inl fS)), pts aG (.inl (G.2.1 0, 18, .inl fG)), pts aB (.inl (G.2.1 0, 5, .inl fB)), pts aP (.inl (G.2.1 0, 89, .inl fP))]) (fun q h => Fz.new (Nat.le_trans hS.1 h)) [1] [0, 2, 3, 4, 5] rfl rfl rfl rfl (by decide)
    refine c_i (va_runS (As := [.ref aL]) (rest := []) ⟨hx, hb, hml, hown, hts⟩ (m_X4_doneOn l G Fk_32 s.heap.size aL fL g (by first | assumption | omega) (by first | assumption | omega)) (va_cwS 1 hts (lw_S q1671 q1672 q44 q1673) rfl rfl rfl (by decide +kernel) ⟨Nat.le_of_ble_eq_true rfl, Nat.le_of_ble_eq_true rfl⟩) (sp_preS hE hS hFk_32 hPk_32 trivial) rfl rfl hl.1 rfl (lv_room (Nat.le_of_ble_eq_true rfl)) dX4_turn_11 ⟨by first | exact Nat.le_of_ble_eq_true rfl | omega | (dsimp only; omega), by first | exact Nat.le_of_ble_eq_true rfl | omega | (dsimp only; omega)⟩) hS hFk_32 hJk_32 (fun r_33 u_34 H locs hpk_32 hSep hS hzk_32 => ?_)
    obtain ⟨rfl, hpk_32⟩ : r_33 = (gNextV (gDone g)) ∧ Enc u_34 (gDone g) := hpk_32
    refine W.cs (cells' := 0) (slots' := 0) rfl rfl ?_
    have hSep : Sep G.1 clA (Fz F s.heap.size) [pts mo (.inr (3, [.int fR, .ref aT, .int (nI zs), .ref aN, .ref aL, .ref aP, .ref aD, .int (nI ac), .ref aK, .ref aZ, .ref aG, .ref aB, .int (nI bl), .int bp, .ref aS, .int (nI tl)])), pts aS (.inl (G.2.1 0, 5, .inl fS)), pts aG (.inl (G.2.1 0, 18, .inl fG)), pts aB (.inl (G.2.1 0, 5, .inl fB)), pts aP (.inl (G.2.1 0, 89, .inl fP)), pts aL (.inl (G.2.1 0, 89, .inl u_34))] H := hSep
    have hf8 := hpk_32
    refine lv_pop hx hb dX4_turn_14 rfl ?_
    refine lv_goto (tgt := 91) hx hb dX4_turn_15 (by decide) ?_
    rw [hQ]
    exact r_v (u := (u_34, bl, bp, tl, fS, fG, fB, fP)) hx hb hr (by unfold gStir; first | (rw [if_pos (show r1 % 8 = 0 from c4)]; exact hf8) | (rw [if_neg c4, if_neg (fun h => (by first | exact c23 h.1 | exact c33 h.2))]; exact hf8.1) | (rw [if_neg c4, if_pos ⟨c23, c33⟩, if_pos c50]; exact hf8) | (rw [if_neg c4, if_pos ⟨c23, c33⟩, if_neg (by rw [c50]; decide)]; exact hf8)) (hSep.pick [0, 5, 1, 2, 3, 4] rfl rfl) hS (by first | exact Nat.le_of_ble_eq_true rfl | omega | (dsimp only; omega)) (by first | exact Nat.le_of_ble_eq_true rfl | omega | (dsimp only; omega)) dX4_turn_91 hlocks
