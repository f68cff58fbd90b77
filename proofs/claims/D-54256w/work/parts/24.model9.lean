set_option maxRecDepth 100000
set_option maxHeartbeats 600000 in
set_option maxRecDepth 100000 in
theorem m_X4_isSetting (l : Launch) (G : EVT) (sz : Nat) (x : Int32) (y : Int32)  : Met l yX4_isSetting (ws_ yX4_isSetting cX4_isSetting 2 (some .boolean)) ({ frames := 1, cells := 0, slots := 0, locals := 25 } : Room) (SPc G (fun _ => False) sz [.int x, .int y] [] (fun _ => True)) (SQi G (fun _ => False) sz (fun (r : Int32) (u : Unit) => r = (bI (setOk x y))) (fun (u : Unit) => [])) (0) (0) (Fz (fun _ => False) sz) := by
  refine sp_of RX4 (by decide) rfl (Nat.le_of_ble_eq_true rfl) ?_
  intro p e s m args below meth c ls QQ hx hb hr hts hown hlocks hml hnm hsz hSep hΦ hE hS hl hQ
  subst hsz
  have hK := hE.1
  have hl : lv_has ls 2 [(0, .int x), (1, .int y)] := hl
  refine lv_iload_n hx hb dX4_isSetting_0 rfl (lv_at hl 0 rfl) ?_
  refine lv_i2l hx hb dX4_isSetting_1 rfl ?_
  refine lv_lconst (v := 0) hx hb dX4_isSetting_2 (by decide) ?_
  refine lv_ldc2 (v := 3) hx hb hown (hts _ q1599) dX4_isSetting_3 ?_
  have hFk_1 : ∀ q, Fz (fun _ => False) s.heap.size q → (Fz (fun _ => False) s.heap.size) q := fun q h => by rcases h with h | h; exact h.elim; exact Fz.new (Nat.le_trans hS.1 h)
  have hPk_1 : Sep G.1 clA (Fz (fun _ => False) s.heap.size) [] s.heap := sp_nil
  have hJk_1 := sp_nilJ (F := (fun _ => False)) hSep (fun _ => id) hFk_1
  refine c_i (va_runS (As := [.long x.toInt64, .long (0 : Int64), .long (3 : Int64)]) (rest := []) ⟨hx, hb, hml, hown, hts⟩ (m_X4_in l G s.heap.size x.toInt64 (0 : Int64) (3 : Int64) ) (va_cwS 3 hts (lw_S q1532 q1533 q44 q1534) rfl rfl rfl (by decide +kernel) ⟨Nat.le_of_ble_eq_true rfl, Nat.le_of_ble_eq_true rfl⟩) (sp_preS hE hS hFk_1 hPk_1 trivial) rfl rfl hl.1 rfl (lv_room (Nat.le_of_ble_eq_true rfl)) dX4_isSetting_6 ⟨by first | exact Nat.le_of_ble_eq_true rfl | omega | (dsimp only; omega), by first | exact Nat.le_of_ble_eq_true rfl | omega | (dsimp only; omega)⟩) hS hFk_1 hJk_1 (fun r_2 u_3 H locs hpk_1 hSep hS hzk_1 => ?_)
  obtain rfl : r_2 = (bI (inR x.toInt64.toInt (0 : Int64).toInt (3 : Int64).toInt)) := hpk_1
  refine W.cs (cells' := 0) (slots' := 0) rfl rfl ?_
  have hSep : Sep G.1 clA (Fz (fun _ => False) s.heap.size) [] H := hSep
  refine n_eq (y := (bI (inR x.toInt 0 3))) (by rw [Int32.toInt_toInt64]; rfl) ?_
  refine b_if_eq (tgt := 79) hx hb dX4_isSetting_9 (by decide) (fun c9 => ?_) (fun c9 => ?_)
  · refine lv_iconst (v := (nI 0)) hx hb dX4_isSetting_79 (by decide) ?_
    rw [hQ]
    exact r_z (r := (nI 0)) (u := ()) hx hb hr (by decide) (by unfold setOk; first | (rw [show inR x.toInt 0 3 = false from c9]; rfl) | (rw [show inR y.toInt (setLo x) (setHi x) = false from c72]; simp; rfl) | (rw [c9, c72]; rfl)) hSep hS (by first | exact Nat.le_of_ble_eq_true rfl | omega | (dsimp only; omega)) (by first | exact Nat.le_of_ble_eq_true rfl | omega | (dsimp only; omega)) dX4_isSetting_80 hlocks
  · have L34 : ∀ (lo9 : Int64) , (lo9.toInt = setLo x) → ∀ (H : Heap) (locs : List Loc) (ls : Array Slot), Sep G.1 clA (Fz (fun _ => False) s.heap.size) [] H → va_S (Fz (fun _ => False) s.heap.size) s.heap H locs → lv_has ls 2 [(0, .int x), (1, .int y)] → W p l e ({ frames := 1, cells := 0, slots := 0, locals := 25 } : Room) s m args below meth c H locs (0) (0) QQ (F0 m 34 ls [.long lo9, .long y.toInt64]) := by
      intro lo9 hp34_0 H locs ls hSep hS hl
      refine lv_iload_n hx hb dX4_isSetting_34 rfl (lv_at hl 0 rfl) ?_
      have L69 : ∀ (hi9 : Int64) , (hi9.toInt = setHi x) → ∀ (H : Heap) (locs : List Loc) (ls : Array Slot), Sep G.1 clA (Fz (fun _ => False) s.heap.size) [] H → va_S (Fz (fun _ => False) s.heap.size) s.heap H locs → lv_has ls 2 [(0, .int x), (1, .int y)] → W p l e ({ frames := 1, cells := 0, slots := 0, locals := 25 } : Room) s m args below meth c H locs (0) (0) QQ (F0 m 69 ls [.long hi9, .long lo9, .long y.toInt64]) := by
        intro hi9 hp69_0 H locs ls hSep hS hl
        have hFk_4 : ∀ q, Fz (fun _ => False) H.size q → (Fz (fun _ => False) s.heap.size) q := fun q h => by rcases h with h | h; exact h.elim; exact Fz.new (Nat.le_trans hS.1 h)
        have hPk_4 : Sep G.1 clA (Fz (fun _ => False) H.size) [] H := sp_nil
        have hJk_4 := sp_nilJ (F := (fun _ => False)) hSep (fun _ => id) hFk_4
        refine c_i (va_runS (As := [.long y.toInt64, .long lo9, .long hi9]) (rest := []) ⟨hx, hb, hml, hown, hts⟩ (m_X4_in l G H.size y.toInt64 lo9 hi9 ) (va_cwS 3 hts (lw_S q1532 q1533 q44 q1534) rfl rfl rfl (by decide +kernel) ⟨Nat.le_of_ble_eq_true rfl, Nat.le_of_ble_eq_true rfl⟩) (sp_preS hE hS hFk_4 hPk_4 trivial) rfl rfl hl.1 rfl (lv_room (Nat.le_of_ble_eq_true rfl)) dX4_isSetting_69 ⟨by first | exact Nat.le_of_ble_eq_true rfl | omega | (dsimp only; omega), by first | exact Nat.le_of_ble_eq_true rfl | omega | (dsimp only; omega)⟩) hS hFk_4 hJk_4 (fun r_5 u_6 H locs hpk_4 hSep hS hzk_4 => ?_)
        obtain rfl : r_5 = (bI (inR y.toInt64.toInt lo9.toInt hi9.toInt)) := hpk_4
        refine W.cs (cells' := 0) (slots' := 0) rfl rfl ?_
        have hSep : Sep G.1 clA (Fz (fun _ => False) s.heap.size) [] H := hSep
        refine n_eq (y := (bI (inR y.toInt (setLo x) (setHi x)))) (by rw [Int32.toInt_toInt64, hp34_0, hp69_0]) ?_
        refine b_if_eq (tgt := 79) hx hb dX4_isSetting_72 (by decide) (fun c72 => ?_) (fun c72 => ?_)
        · refine lv_iconst (v := (nI 0)) hx hb dX4_isSetting_79 (by decide) ?_
          rw [hQ]
          exact r_z (r := (nI 0)) (u := ()) hx hb hr (by decide) (by unfold setOk; first | (rw [show inR x.toInt 0 3 = false from c9]; rfl) | (rw [show inR y.toInt (setLo x) (setHi x) = false from c72]; simp; rfl) | (rw [c9, c72]; rfl)) hSep hS (by first | exact Nat.le_of_ble_eq_true rfl | omega | (dsimp only; omega)) (by first | exact Nat.le_of_ble_eq_true rfl | omega | (dsimp only; omega)) dX4_isSetting_80 hlocks
        · refine lv_iconst (v := (nI 1)) hx hb dX4_isSetting_75 (by decide) ?_
          refine lv_goto (tgt := 80) hx hb dX4_isSetting_76 (by decide) ?_
          rw [hQ]
          exact r_z (r := (nI 1)) (u := ()) hx hb hr (by decide) (by unfold setOk; first | (rw [show inR x.toInt 0 3 = false from c9]; rfl) | (rw [show inR y.toInt (setLo x) (setHi x) = false from c72]; simp; rfl) | (rw [c9, c72]; rfl)) hSep hS (by first | exact Nat.le_of_ble_eq_true rfl | omega | (dsimp only; omega)) (by first | exact Nat.le_of_ble_eq_true rfl | omega | (dsimp only; omega)) dX4_isSetting_80 hlocks
      refine lv_if_ne (tgt := 44) hx hb dX4_isSetting_35 (by decide) (fun c35 => ?_) (fun c35 => ?_)
      · refine lv_iload_n hx hb dX4_isSetting_44 rfl (lv_at hl 0 rfl) ?_
        refine lv_iconst (v := (nI 1)) hx hb dX4_isSetting_45 (by decide) ?_
        refine lv_icmp_ne (tgt := 55) hx hb dX4_isSetting_46 (by decide) (fun c46 => ?_) (fun c46 => ?_)
        · refine lv_iload_n hx hb dX4_isSetting_55 rfl (lv_at hl 0 rfl) ?_
          refine lv_iconst (v := (nI 2)) hx hb dX4_isSetting_56 (by decide) ?_
          refine lv_icmp_ne (tgt := 66) hx hb dX4_isSetting_57 (by decide) (fun c57 => ?_) (fun c57 => ?_)
          · refine lv_ldc2 (v := 99) hx hb hown (hts _ q1716) dX4_isSetting_66 ?_
            exact L69 (99 : Int64) (by unfold setHi; rw [if_neg (show ¬ x = nI 0 from c35), if_neg c46, if_neg c57]; rfl) _ _ _ hSep hS (lv_sub hl [0, 1] rfl)
          · refine lv_ldc2 (v := 5) hx hb hown (hts _ q1713) dX4_isSetting_60 ?_
            refine lv_goto (tgt := 69) hx hb dX4_isSetting_63 (by decide) ?_
            exact L69 (5 : Int64) (by unfold setHi; rw [if_neg (show ¬ x = nI 0 from c35), if_neg c46, if_pos c57]; rfl) _ _ _ hSep hS (lv_sub hl [0, 1] rfl)
        · refine lv_ldc2 (v := 9) hx hb hown (hts _ q1715) dX4_isSetting_49 ?_
          refine lv_goto (tgt := 69) hx hb dX4_isSetting_52 (by decide) ?_
          exact L69 (9 : Int64) (by unfold setHi; rw [if_neg (show ¬ x = nI 0 from c35), if_pos c46]; rfl) _ _ _ hSep hS (lv_sub hl [0, 1] rfl)
      · refine lv_ldc2 (v := 6) hx hb hown (hts _ q1714) dX4_isSetting_38 ?_
        refine lv_goto (tgt := 69) hx hb dX4_isSetting_41 (by decide) ?_
        exact L69 (6 : Int64) (by unfold setHi; rw [if_pos (show x = nI 0 from c35)]; rfl) _ _ _ hSep hS (lv_sub hl [0, 1] rfl)
    refine lv_iload_n hx hb dX4_isSetting_12 rfl (lv_at hl 1 rfl) ?_
    refine lv_i2l hx hb dX4_isSetting_13 rfl ?_
    refine lv_iload_n hx hb dX4_isSetting_14 rfl (lv_at hl 0 rfl) ?_
    refine lv_if_ne (tgt := 22) hx hb dX4_isSetting_15 (by decide) (fun c15 => ?_) (fun c15 => ?_)
    · refine lv_iload_n hx hb dX4_isSetting_22 rfl (lv_at hl 0 rfl) ?_
      refine lv_iconst (v := (nI 3)) hx hb dX4_isSetting_23 (by decide) ?_
      refine lv_icmp_ne (tgt := 33) hx hb dX4_isSetting_24 (by decide) (fun c24 => ?_) (fun c24 => ?_)
      · refine lv_lconst (v := 1) hx hb dX4_isSetting_33 (by decide) ?_
        exact L34 (1 : Int64) (by unfold setLo; rw [if_neg (show ¬ x = nI 0 from c15), if_neg c24]; rfl) _ _ _ hSep hS (lv_sub hl [0, 1] rfl)
      · refine lv_ldc2 (v := 5) hx hb hown (hts _ q1713) dX4_isSetting_27 ?_
        refine lv_goto (tgt := 34) hx hb dX4_isSetting_30 (by decide) ?_
        exact L34 (5 : Int64) (by unfold setLo; rw [if_neg (show ¬ x = nI 0 from c15), if_pos c24]; rfl) _ _ _ hSep hS (lv_sub hl [0, 1] rfl)
    · refine lv_lconst (v := 0) hx hb dX4_isSetting_18 (by decide) ?_
      refine lv_goto (tgt := 34) hx hb dX4_isSetting_19 (by decide) ?_
      exact L34 (0 : Int64) (by unfold setLo; rw [if_pos (show x = nI 0 from c15)]; rfl) _ _ _ hSep hS (lv_sub hl [0, 1] rfl)

set_option maxHeartbeats 600000 in
set_option maxRecDepth 100000 in
theorem m_X4_readText (l : Launch) (G : EVT) (F : Nat → Prop) (sz : Nat) (mo : Nat) (fR : Int32) (aT : Nat) (zs : Nat) (aN : Nat) (aL : Nat) (aP : Nat) (aD : Nat) (ac : Nat) (aK : Nat) (aZ : Nat) (aG : Nat) (aB : Nat) (bl : Nat) (bp : Int32) (aS : Nat) (tl : Nat) (fT : Nat → Int32) (fS : Nat → Int32) (T : List Nat) (hT : Pre fT T) (hz : zs = T.length) (h20 : T.length ≤ 20) (h256 : ∀ w ∈ T, w < 256) : Met l yX4_readText (ws_ yX4_readText cX4_readText 7 (some .int)) ({ frames := 2, cells := 0, slots := 0, locals := 60 } : Room) (SPc G F sz [.ref mo] [pts mo (.inr (3, [.int fR, .ref aT, .int (nI zs), .ref aN, .ref aL, .ref aP, .ref aD, .int (nI ac), .ref aK, .ref aZ, .ref aG, .ref aB, .int (nI bl), .int bp, .ref aS, .int (nI tl)])), pts aT (.inl (G.2.1 0, 20, .inl fT)), pts aS (.inl (G.2.1 0, 5, .inl fS))] (fun _ => True)) (SQi G F sz (fun (r : Int32) (u : (Nat → Int32) × Nat) => r = (errI T) ∧ (rd 0 [] T = none → Pre u.1 (tW T) ∧ u.2 = (tW T).length)) (fun (u : (Nat → Int32) × Nat) => [pts mo (.inr (3, [.int fR, .ref aT, .int (nI zs), .ref aN, .ref aL, .ref aP, .ref aD, .int (nI ac), .ref aK, .ref aZ, .ref aG, .ref aB, .int (nI bl), .int bp, .ref aS, .int (nI u.2)])), pts aT (.inl (G.2.1 0, 20, .inl fT)), pts aS (.inl (G.2.1 0, 5, .inl u.1))])) (0) (0) (Fz F sz) := by
  refine sp_of RX4 (by decide) rfl (Nat.le_of_ble_eq_true rfl) ?_
  intro p e s m args below meth c ls QQ hx hb hr hts hown hlocks hml hnm hsz hSep hΦ hE hS hl hQ
  subst hsz
  have hK := hE.1
  have hl : lv_has ls 7 [(0, .ref mo)] := hl
  subst hz
  refine lv_aload_n hx hb dX4_readText_0 rfl (lv_at hl 0 rfl) ?_
  refine lv_iconst (v := (nI 0)) hx hb dX4_readText_1 (by decide) ?_
  refine s_put (ci := 3) (v := .int (nI 0)) (ty := .int) (C := RX4) (T := TX4) (N := 16) hx hb hts in_X4 tyX4 tyX4_ok nmX4 hown hK hSep hS 0 rfl rfl 15 (by decide) (hts _ q1488) (fun _ h9 => h9) rfl (by decide +kernel) rfl rfl (Nat.le_of_ble_eq_true rfl) dX4_readText_2 (fun H locs hSep hS => ?_)
  have hSep : Sep G.1 clA (Fz F s.heap.size) [pts mo (.inr (3, [.int fR, .ref aT, .int (nI T.length), .ref aN, .ref aL, .ref aP, .ref aD, .int (nI ac), .ref aK, .ref aZ, .ref aG, .ref aB, .int (nI bl), .int bp, .ref aS, .int (nI 0)])), pts aT (.inl (G.2.1 0, 20, .inl fT)), pts aS (.inl (G.2.1 0, 5, .inl fS))] H := hSep
  refine lv_iconst (v := (nI 0)) hx hb dX4_readText_5 (by decide) ?_
  refine lv_istore_n (lv' := [(1, .int (nI 0)), (0, .ref mo)]) hx hb dX4_readText_6 rfl hl (by decide) rfl (fun ls hl => ?_)
  refine lv_iconst (v := (nI 0)) hx hb dX4_readText_7 (by decide) ?_
  refine lv_istore_n (lv' := [(2, .int (nI 0)), (1, .int (nI 0)), (0, .ref mo)]) hx hb dX4_readText_8 rfl hl (by decide) rfl (fun ls hl => ?_)
  have L9 : ∀ (fu : Nat) (k : Nat) (q : Nat) (fS9 : Nat → Int32) (t9 : Nat) , T.length - k < fu → (k ≤ T.length) → (gRun 0 (tW (T.take k)) = q) → (q ≠ 6) → (Pre fS9 (tW (T.take k))) → (t9 = (tW (T.take k)).length) → (rd 0 [] T = (rd q (tW (T.take k)) (T.drop k)).map (· + k)) → (∀ w ∈ tW (T.take k), w < 18) → ∀ (H : Heap) (locs : List Loc) (ls : Array Slot), Sep G.1 clA (Fz F s.heap.size) [pts mo (.inr (3, [.int fR, .ref aT, .int (nI T.length), .ref aN, .ref aL, .ref aP, .ref aD, .int (nI ac), .ref aK, .ref aZ, .ref aG, .ref aB, .int (nI bl), .int bp, .ref aS, .int (nI t9)])), pts aT (.inl (G.2.1 0, 20, .inl fT)), pts aS (.inl (G.2.1 0, 5, .inl fS9))] H → va_S (Fz F s.heap.size) s.heap H locs → lv_has ls 7 [(2, .int (nI k)), (1, .int (nI q)), (0, .ref mo)] → W p l e ({ frames := 2, cells := 0, slots := 0, locals := 60 } : Room) s m args below meth c H locs (0) (0) QQ (F0 m 9 ls []) := by
    intro fu
    induction fu with
    | zero => intro k q fS9 t9 hm; exact absurd hm (Nat.not_lt_zero _)
    | succ fu ih9 =>
      intro k q fS9 t9 hm9 hp9_0 hp9_1 hp9_2 hp9_3 hp9_4 hp9_5 hp9_6 H locs ls hSep hS hl
      have hq5 : q ≤ 5 := by have := gRun_le (tW (T.take k)) 0 (by omega); omega
      refine lv_iload_n hx hb dX4_readText_9 rfl (lv_at hl 0 rfl) ?_
      refine lv_aload_n hx hb dX4_readText_10 rfl (lv_at hl 2 rfl) ?_
      refine va_get (D := G.1) (ci := 3) (v := .int (nI T.length)) (C := RX4) (T := TX4) (N := 16) hx hb hts in_X4 hown hK (hSep.cel (k := 0) rfl) 0 rfl rfl 2 (by decide) (hts _ q1475) (fun _ h9 => h9) rfl dX4_readText_11 ?_
      refine n_icmp_ge (tgt := 183) hx hb (by omega) (by omega) dX4_readText_14 (by decide) (fun c14 => ?_) (fun c14 => ?_)
      · obtain rfl : k = T.length := by omega
        have hst := rd_end hp9_5
        rw [List.take_length] at hp9_3 hp9_4
        refine lv_iload_n hx hb dX4_readText_183 rfl (lv_at hl 1 rfl) ?_
        refine lv_iconst (v := (nI 3)) hx hb dX4_readText_184 (by decide) ?_
        refine n_icmp_eq (tgt := 193) hx hb (by omega) (by omega) dX4_readText_185 (by decide) (fun c185 => ?_) (fun c185 => ?_)
        · refine lv_iconst (v := (-1)) hx hb dX4_readText_193 (by decide) ?_
          refine lv_goto (tgt := 201) hx hb dX4_readText_194 (by decide) ?_
          rw [hQ]
          exact r_i (r := (-1)) (u := (fS9, t9)) hx hb hr (⟨by unfold errI; rw [hst]; first | rw [if_pos (by omega)] | rw [if_neg (by omega)], fun _ => ⟨hp9_3, hp9_4⟩⟩) hSep hS (by first | exact Nat.le_of_ble_eq_true rfl | omega | (dsimp only; omega)) (by first | exact Nat.le_of_ble_eq_true rfl | omega | (dsimp only; omega)) dX4_readText_201 hlocks
        · refine lv_iload_n hx hb dX4_readText_188 rfl (lv_at hl 1 rfl) ?_
          refine lv_iconst (v := (nI 5)) hx hb dX4_readText_189 (by decide) ?_
          refine n_icmp_ne (tgt := 197) hx hb (by omega) (by omega) dX4_readText_190 (by decide) (fun c190 => ?_) (fun c190 => ?_)
          · refine lv_aload_n hx hb dX4_readText_197 rfl (lv_at hl 2 rfl) ?_
            refine va_get (D := G.1) (ci := 3) (v := .int (nI T.length)) (C := RX4) (T := TX4) (N := 16) hx hb hts in_X4 hown hK (hSep.cel (k := 0) rfl) 0 rfl rfl 2 (by decide) (hts _ q1475) (fun _ h9 => h9) rfl dX4_readText_198 ?_
            rw [hQ]
            exact r_i (r := (nI T.length)) (u := (fS9, t9)) hx hb hr (⟨by unfold errI; rw [hst]; first | rw [if_pos (by omega)] | rw [if_neg (by omega)], fun _ => ⟨hp9_3, hp9_4⟩⟩) hSep hS (by first | exact Nat.le_of_ble_eq_true rfl | omega | (dsimp only; omega)) (by first | exact Nat.le_of_ble_eq_true rfl | omega | (dsimp only; omega)) dX4_readText_201 hlocks
          · refine lv_iconst (v := (-1)) hx hb dX4_readText_193 (by decide) ?_
            refine lv_goto (tgt := 201) hx hb dX4_readText_194 (by decide) ?_
            rw [hQ]
            exact r_i (r := (-1)) (u := (fS9, t9)) hx hb hr (⟨by unfold errI; rw [hst]; first | rw [if_pos (by omega)] | rw [if_neg (by omega)], fun _ => ⟨hp9_3, hp9_4⟩⟩) hSep hS (by first | exact Nat.le_of_ble_eq_true rfl | omega | (dsimp only; omega)) (by first | exact Nat.le_of_ble_eq_true rfl | omega | (dsimp only; omega)) dX4_readText_201 hlocks
      · have hc6 : (T.getD k 0) < 256 := h256 _ (getD_mem (by omega))
        have htx := txW_in hc6
        have hl5 := gRun_len (s := tW (T.take k)) (by rw [hp9_1]; exact hp9_2)
        refine lv_aload_n hx hb dX4_readText_17 rfl (lv_at hl 2 rfl) ?_
        refine va_get (D := G.1) (ci := 3) (v := .ref aT) (C := RX4) (T := TX4) (N := 16) hx hb hts in_X4 hown hK (hSep.cel (k := 0) rfl) 0 rfl rfl 1 (by decide) (hts _ q1474) (fun _ h9 => h9) rfl dX4_readText_18 ?_
        refine lv_iload_n hx hb dX4_readText_21 rfl (lv_at hl 0 rfl) ?_
        refine n_iald (i := k) hx hb hK (hSep.cel (k := 1) rfl) 0 rfl (by omega) (by omega) dX4_readText_22 ?_
        refine n_eq (y := (nI (T.getD k 0))) (hT k (by omega)) ?_
        refine lv_bipush (v := (nI 97)) hx hb dX4_readText_23 (by decide) ?_
        refine lv_isub hx hb dX4_readText_25 ?_
        refine lv_istore_n (lv' := [(3, .int (nI (T.getD k 0) - nI 97)), (2, .int (nI k)), (1, .int (nI q)), (0, .ref mo)]) hx hb dX4_readText_26 rfl hl (by decide) rfl (fun ls hl => ?_)
        have L41 : ∀ (kd : Int32) , ((txW (T.getD k 0) = none ∧ kd = -1) ∨ ∃ w, txW (T.getD k 0) = some w ∧ nI (T.getD k 0) - nI 97 = nI w ∧ kd = nI (w % 3)) → ∀ (H : Heap) (locs : List Loc) (ls : Array Slot), Sep G.1 clA (Fz F s.heap.size) [pts mo (.inr (3, [.int fR, .ref aT, .int (nI T.length), .ref aN, .ref aL, .ref aP, .ref aD, .int (nI ac), .ref aK, .ref aZ, .ref aG, .ref aB, .int (nI bl), .int bp, .ref aS, .int (nI t9)])), pts aT (.inl (G.2.1 0, 20, .inl fT)), pts aS (.inl (G.2.1 0, 5, .inl fS9))] H → va_S (Fz F s.heap.size) s.heap H locs → lv_has ls 7 [(3, .int (nI (T.getD k 0) - nI 97)), (2, .int (nI k)), (1, .int (nI q)), (0, .ref mo)] → W p l e ({ frames := 2, cells := 0, slots := 0, locals := 60 } : Room) s m args below meth c H locs (0) (0) QQ (F0 m 41 ls [.int kd]) := by
          intro kd hp41_0 H locs ls hSep hS hl
          refine lv_istore (lv' := [(4, .int kd), (3, .int (nI (T.getD k 0) - nI 97)), (2, .int (nI k)), (1, .int (nI q)), (0, .ref mo)]) hx hb dX4_readText_41 hl (by decide) rfl (fun ls hl => ?_)
          have L89 : ∀ (m1 : Bool) , (m1 = true ↔ ∃ w, txW (T.getD k 0) = some w ∧ gNext q w ≠ 6) → ∀ (H : Heap) (locs : List Loc) (ls : Array Slot), Sep G.1 clA (Fz F s.heap.size) [pts mo (.inr (3, [.int fR, .ref aT, .int (nI T.length), .ref aN, .ref aL, .ref aP, .ref aD, .int (nI ac), .ref aK, .ref aZ, .ref aG, .ref aB, .int (nI bl), .int bp, .ref aS, .int (nI t9)])), pts aT (.inl (G.2.1 0, 20, .inl fT)), pts aS (.inl (G.2.1 0, 5, .inl fS9))] H → va_S (Fz F s.heap.size) s.heap H locs → lv_has ls 7 [(4, .int kd), (3, .int (nI (T.getD k 0) - nI 97)), (2, .int (nI k)), (1, .int (nI q)), (0, .ref mo)] → W p l e ({ frames := 2, cells := 0, slots := 0, locals := 60 } : Room) s m args below meth c H locs (0) (0) QQ (F0 m 89 ls [.int (bI m1)]) := by
            intro m1 hp89_0 H locs ls hSep hS hl
            refine lv_istore (lv' := [(5, .int (bI m1)), (4, .int kd), (3, .int (nI (T.getD k 0) - nI 97)), (2, .int (nI k)), (1, .int (nI q)), (0, .ref mo)]) hx hb dX4_readText_89 hl (by decide) rfl (fun ls hl => ?_)
            refine lv_iconst (v := (nI 0)) hx hb dX4_readText_91 (by decide) ?_
            refine lv_istore (lv' := [(6, .int (nI 0)), (5, .int (bI m1)), (4, .int kd), (3, .int (nI (T.getD k 0) - nI 97)), (2, .int (nI k)), (1, .int (nI q)), (0, .ref mo)]) hx hb dX4_readText_92 hl (by decide) rfl (fun ls hl => ?_)
            have L94 : ∀ (fu : Nat) (i : Nat) (m2 : Bool) , t9 - i < fu → (i ≤ t9) → (m2 = true ↔ (m1 = true ∧ ∀ j, j < i → nI ((tW (T.take k)).getD j 0) ≠ nI (T.getD k 0) - nI 97)) → ∀ (H : Heap) (locs : List Loc) (ls : Array Slot), Sep G.1 clA (Fz F s.heap.size) [pts mo (.inr (3, [.int fR, .ref aT, .int (nI T.length), .ref aN, .ref aL, .ref aP, .ref aD, .int (nI ac), .ref aK, .ref aZ, .ref aG, .ref aB, .int (nI bl), .int bp, .ref aS, .int (nI t9)])), pts aT (.inl (G.2.1 0, 20, .inl fT)), pts aS (.inl (G.2.1 0, 5, .inl fS9))] H → va_S (Fz F s.heap.size) s.heap H locs → lv_has ls 7 [(6, .int (nI i)), (5, .int (bI m2)), (4, .int kd), (3, .int (nI (T.getD k 0) - nI 97)), (2, .int (nI k)), (1, .int (nI q)), (0, .ref mo)] → W p l e ({ frames := 2, cells := 0, slots := 0, locals := 60 } : Room) s m args below meth c H locs (0) (0) QQ (F0 m 94 ls []) := by
              intro fu
              induction fu with
              | zero => intro i m2 hm; exact absurd hm (Nat.not_lt_zero _)
              | succ fu ih94 =>
                intro i m2 hm94 hp94_0 hp94_1 H locs ls hSep hS hl
                refine lv_iload hx hb dX4_readText_94 (lv_at hl 0 rfl) ?_
                refine lv_aload_n hx hb dX4_readText_96 rfl (lv_at hl 6 rfl) ?_
                refine va_get (D := G.1) (ci := 3) (v := .int (nI t9)) (C := RX4) (T := TX4) (N := 16) hx hb hts in_X4 hown hK (hSep.cel (k := 0) rfl) 0 rfl rfl 15 (by decide) (hts _ q1488) (fun _ h9 => h9) rfl dX4_readText_97 ?_
                refine n_icmp_ge (tgt := 132) hx hb (by omega) (by omega) dX4_readText_100 (by decide) (fun c100 => ?_) (fun c100 => ?_)
                · refine lv_iload hx hb dX4_readText_132 (lv_at hl 1 rfl) ?_
                  refine b_if_ne (tgt := 139) hx hb dX4_readText_134 (by decide) (fun c134 => ?_) (fun c134 => ?_)
                  · obtain ⟨h9m, h9n⟩ := hp94_1.mp c134
                    obtain ⟨w9, hw9, hg9⟩ := hp89_0.mp h9m
                    have hwx := htx.2 w9 hw9
                    have h18 := (txW_w hw9)
                    have hn9 : gNext q w9 ≠ 6 ∧ w9 ∉ tW (T.take k) := ⟨hg9, fun hm => by obtain ⟨j, hj, e9⟩ := mem_getD hm; exact h9n j (by omega) (by rw [e9, hwx])⟩
                    have htk : tW (T.take (k + 1)) = tW (T.take k) ++ [w9] := by rw [tW_take (by omega), h18.1]
                    have hkd : kd = nI (w9 % 3) := by rcases hp41_0 with ⟨h1, _⟩ | ⟨w, h1, _, h3⟩; rw [hw9] at h1; cases h1; rw [hw9] at h1; cases h1; exact h3
                    subst hkd
                    rw [hwx] at hl
                    have ht6 : gRun 0 (tW (T.take (k + 1))) ≠ 6 := by rw [htk, gRun_app, hp9_1]; exact hg9
                    have ht7 := gRun_len ht6
                    rw [htk, List.length_append] at ht7
                    refine lv_aload_n hx hb dX4_readText_139 rfl (lv_at hl 6 rfl) ?_
                    refine lv_iload_n hx hb dX4_readText_140 rfl (lv_at hl 3 rfl) ?_
                    obtain ⟨Fk_1, hFk_1, hPk_1, hJk_1⟩ := hSep.cut (Pc := [pts mo (.inr (3, [.int fR, .ref aT, .int (nI T.length), .ref aN, .ref aL, .ref aP, .ref aD, .int (nI ac), .ref aK, .ref aZ, .ref aG, .ref aB, .int (nI bl), .int bp, .ref aS, .int (nI t9)])), pts aS (.inl (G.2.1 0, 5, .inl fS9))]) (Pr := [pts aT (.inl (G.2.1 0, 20, .inl fT))]) (fun q h => Fz.new (Nat.le_trans hS.1 h)) [0, 2] [1] rfl rfl rfl rfl (by decide)
                    refine c_v (va_runV (As := [.int (nI w9)]) (rest := []) ⟨hx, hb, hml, hown, hts⟩ (m_X4_tryWord l G Fk_1 H.size mo fR aT T.length aN aL aP aD ac aK aZ aG aB bl bp aS t9 w9 fS9 (by simp at ht7; omega)) (cwV 1 hts (lw_V q1555 q1557 qs23 q44 q1558) rfl rfl rfl (by decide +kernel) ⟨Nat.le_of_ble_eq_true rfl, Nat.le_of_ble_eq_true rfl⟩) (sp_preV hE hS hFk_1 hPk_1 trivial (sp_recv (ci := 3) hK (hSep.cel (k := 0) rfl) rfl)) rfl rfl hl.1 rfl (lv_room (Nat.le_of_ble_eq_true rfl)) dX4_readText_141 ⟨by first | exact Nat.le_of_ble_eq_true rfl | omega | (dsimp only; omega), by first | exact Nat.le_of_ble_eq_true rfl | omega | (dsimp only; omega)⟩) hS hFk_1 hJk_1 (fun u_3 H locs hpk_1 hSep hS hzk_1 => ?_)
                    refine W.cs (cells' := 0) (slots' := 0) rfl rfl ?_
                    have hSep : Sep G.1 clA (Fz F s.heap.size) [pts aT (.inl (G.2.1 0, 20, .inl fT)), pts mo (.inr (3, [.int fR, .ref aT, .int (nI T.length), .ref aN, .ref aL, .ref aP, .ref aD, .int (nI ac), .ref aK, .ref aZ, .ref aG, .ref aB, .int (nI bl), .int bp, .ref aS, .int (nI (t9 + 1))])), pts aS (.inl (G.2.1 0, 5, .inl (upd fS9 t9 (nI w9))))] H := hSep
                    have L176 : ∀ (q2 : Nat) , (q2 = gNext q w9) → ∀ (H : Heap) (locs : List Loc) (ls : Array Slot), Sep G.1 clA (Fz F s.heap.size) [pts aT (.inl (G.2.1 0, 20, .inl fT)), pts mo (.inr (3, [.int fR, .ref aT, .int (nI T.length), .ref aN, .ref aL, .ref aP, .ref aD, .int (nI ac), .ref aK, .ref aZ, .ref aG, .ref aB, .int (nI bl), .int bp, .ref aS, .int (nI (t9 + 1))])), pts aS (.inl (G.2.1 0, 5, .inl (upd fS9 t9 (nI w9))))] H → va_S (Fz F s.heap.size) s.heap H locs → lv_has ls 7 [(6, .int (nI i)), (5, .int (bI m2)), (4, .int (nI (w9 % 3))), (3, .int (nI w9)), (2, .int (nI k)), (1, .int (nI q)), (0, .ref mo)] → W p l e ({ frames := 2, cells := 0, slots := 0, locals := 60 } : Room) s m args below meth c H locs (0) (0) QQ (F0 m 176 ls [.int (nI q2)]) := by
                      intro q2 hp176_0 H locs ls hSep hS hl
                      refine lv_istore_n (lv' := [(1, .int (nI q2)), (6, .int (nI i)), (5, .int (bI m2)), (4, .int (nI (w9 % 3))), (3, .int (nI w9)), (2, .int (nI k)), (0, .ref mo)]) hx hb dX4_readText_176 rfl hl (by decide) rfl (fun ls hl => ?_)
                      refine lv_iinc (v := (nI (k + 1))) (lv' := [(2, .int (nI (k + 1))), (1, .int (nI q2)), (6, .int (nI i)), (5, .int (bI m2)), (4, .int (nI (w9 % 3))), (3, .int (nI w9)), (0, .ref mo)]) hx hb dX4_readText_177 hl (k := 5) rfl (nI_inc k 1) (by decide) rfl (fun ls hl => ?_)
                      refine lv_goto (tgt := 9) hx hb dX4_readText_180 (by decide) ?_
                      exact ih9 (k + 1) q2 (upd fS9 t9 (nI w9)) (t9 + 1) (Nat.lt_of_lt_of_le (Nat.sub_lt_sub_left (Nat.lt_of_not_le c14) (Nat.lt_succ_self k)) (Nat.le_of_lt_succ hm9)) (by omega) (by rw [htk, gRun_app, hp9_1]; exact hp176_0.symm) (by rw [hp176_0]; exact hn9.1) (by rw [htk]; exact hp9_3.push hp9_4) (by rw [htk, List.length_append, hp9_4]; rfl) (by rw [htk, hp176_0]; exact rd_step hp9_5 (by omega) hw9 hn9.1 hn9.2) (fun w hw => by rw [htk] at hw; rcases List.mem_append.mp hw with z | z; exact hp9_6 w z; rw [List.mem_singleton.mp z]; exact h18.2) _ _ _ (hSep.pick [1, 0, 2] rfl rfl) hS (lv_sub hl [0, 1, 6] rfl)
                    refine lv_iload hx hb dX4_readText_144 (lv_at hl 2 rfl) ?_
                    refine lv_iconst (v := (nI 2)) hx hb dX4_readText_146 (by decide) ?_
                    refine lv_icmp_ne (tgt := 156) hx hb dX4_readText_147 (by decide) (fun c147 => ?_) (fun c147 => ?_)
                    · refine lv_iload hx hb dX4_readText_156 (lv_at hl 2 rfl) ?_
                      refine lv_iconst (v := (nI 1)) hx hb dX4_readText_158 (by decide) ?_
                      refine lv_icmp_ne (tgt := 166) hx hb dX4_readText_159 (by decide) (fun c159 => ?_) (fun c159 => ?_)
                      · refine lv_iload_n hx hb dX4_readText_166 rfl (lv_at hl 5 rfl) ?_
                        refine lv_iconst (v := (nI 2)) hx hb dX4_readText_167 (by decide) ?_
                        refine n_icmp_ge (tgt := 175) hx hb (by omega) (by omega) dX4_readText_168 (by decide) (fun c168 => ?_) (fun c168 => ?_)
                        · refine lv_iconst (v := (nI 5)) hx hb dX4_readText_175 (by decide) ?_
                          exact L176 5 (gN_0b (by omega) hn9.1 (kd30 c147 c159) (by omega)) _ _ _ hSep hS (lv_sub hl [0, 1, 2, 3, 4, 5, 6] rfl)
                        · refine lv_iconst (v := (nI 2)) hx hb dX4_readText_171 (by decide) ?_
                          refine lv_goto (tgt := 176) hx hb dX4_readText_172 (by decide) ?_
                          exact L176 2 (gN_0a (by omega) hn9.1 (kd30 c147 c159) (by omega)) _ _ _ hSep hS (lv_sub hl [0, 1, 2, 3, 4, 5, 6] rfl)
                      · refine lv_iconst (v := (nI 3)) hx hb dX4_readText_162 (by decide) ?_
                        refine lv_goto (tgt := 176) hx hb dX4_readText_163 (by decide) ?_
                        exact L176 3 (gN_1 (by omega) hn9.1 ((kd3 w9 1 (by decide)).mp c159)) _ _ _ hSep hS (lv_sub hl [0, 1, 2, 3, 4, 5, 6] rfl)
                    · refine lv_iload_n hx hb dX4_readText_150 rfl (lv_at hl 5 rfl) ?_
                      refine lv_iconst (v := (nI 1)) hx hb dX4_readText_151 (by decide) ?_
                      refine n_iadd hx hb dX4_readText_152 ?_
                      refine lv_goto (tgt := 176) hx hb dX4_readText_153 (by decide) ?_
                      exact L176 (q + 1) (gN_2 (by omega) hn9.1 ((kd3 w9 2 (by decide)).mp c147)) _ _ _ hSep hS (lv_sub hl [0, 1, 2, 3, 4, 5, 6] rfl)
                  · have hst : rd 0 [] T = some k := rd_stop hp9_5 (by omega) (fun w hw h => by have h9 := (hp89_0.mpr ⟨w, hw, h.1⟩); have h8 := hp94_1.mpr ⟨h9, fun j hj e9 => h.2 (by rw [htx.2 w hw] at e9; have hj2 : j < (tW (T.take k)).length := (by omega); have h18 := txW_w hw; rw [← nI_inj (by have := getD_lt hp9_6 hj2; omega) (by omega) e9]; exact getD_mem hj2)⟩; rw [h8] at c134; exact absurd c134 (by decide))
                    refine lv_iload_n hx hb dX4_readText_137 rfl (lv_at hl 4 rfl) ?_
                    rw [hQ]
                    exact r_i (r := (nI k)) (u := (fS9, t9)) hx hb hr (⟨by unfold errI; rw [hst], fun h => (by rw [hst] at h; cases h)⟩) hSep hS (by first | exact Nat.le_of_ble_eq_true rfl | omega | (dsimp only; omega)) (by first | exact Nat.le_of_ble_eq_true rfl | omega | (dsimp only; omega)) dX4_readText_138 hlocks
                · have L124 : ∀ (m3 : Bool) , (m3 = true ↔ (m2 = true ∧ nI ((tW (T.take k)).getD i 0) ≠ nI (T.getD k 0) - nI 97)) → ∀ (H : Heap) (locs : List Loc) (ls : Array Slot), Sep G.1 clA (Fz F s.heap.size) [pts mo (.inr (3, [.int fR, .ref aT, .int (nI T.length), .ref aN, .ref aL, .ref aP, .ref aD, .int (nI ac), .ref aK, .ref aZ, .ref aG, .ref aB, .int (nI bl), .int bp, .ref aS, .int (nI t9)])), pts aT (.inl (G.2.1 0, 20, .inl fT)), pts aS (.inl (G.2.1 0, 5, .inl fS9))] H → va_S (Fz F s.heap.size) s.heap H locs → lv_has ls 7 [(6, .int (nI i)), (5, .int (bI m2)), (4, .int kd), (3, .int (nI (T.getD k 0) - nI 97)), (2, .int (nI k)), (1, .int (nI q)), (0, .ref mo)] → W p l e ({ frames := 2, cells := 0, slots := 0, locals := 60 } : Room) s m args below meth c H locs (0) (0) QQ (F0 m 124 ls [.int (bI m3)]) := by
                    intro m3 hp124_0 H locs ls hSep hS hl
                    refine lv_istore (lv' := [(5, .int (bI m3)), (6, .int (nI i)), (4, .int kd), (3, .int (nI (T.getD k 0) - nI 97)), (2, .int (nI k)), (1, .int (nI q)), (0, .ref mo)]) hx hb dX4_readText_124 hl (by decide) rfl (fun ls hl => ?_)
                    refine lv_iinc (v := (nI (i + 1))) (lv' := [(6, .int (nI (i + 1))), (5, .int (bI m3)), (4, .int kd), (3, .int (nI (T.getD k 0) - nI 97)), (2, .int (nI k)), (1, .int (nI q)), (0, .ref mo)]) hx hb dX4_readText_126 hl (k := 1) rfl (nI_inc i 1) (by decide) rfl (fun ls hl => ?_)
                    refine lv_goto (tgt := 94) hx hb dX4_readText_129 (by decide) ?_
                    exact ih94 (i + 1) m3 (by omega) (by omega) (by rw [hp124_0, hp94_1]; exact ⟨fun h => ⟨h.1.1, fun j hj => (by rcases Nat.lt_succ_iff_lt_or_eq.mp hj with z | z; exact h.1.2 j z; rw [z]; exact h.2)⟩, fun h => ⟨⟨h.1, fun j hj => h.2 j (by omega)⟩, h.2 i (by omega)⟩⟩) _ _ _ hSep hS (lv_sub hl [0, 1, 2, 3, 4, 5, 6] rfl)
                  refine lv_iload hx hb dX4_readText_103 (lv_at hl 1 rfl) ?_
                  refine b_if_eq (tgt := 123) hx hb dX4_readText_105 (by decide) (fun c105 => ?_) (fun c105 => ?_)
                  · refine lv_iconst (v := (nI 0)) hx hb dX4_readText_123 (by decide) ?_
                    exact L124 false (⟨fun h => (by cases h), fun h => (by first | exact absurd (h.1.symm.trans c105) (by decide) | exact absurd c116 h.2)⟩) _ _ _ hSep hS (lv_sub hl [0, 1, 2, 3, 4, 5, 6] rfl)
                  · refine lv_aload_n hx hb dX4_readText_108 rfl (lv_at hl 6 rfl) ?_
                    refine va_get (D := G.1) (ci := 3) (v := .ref aS) (C := RX4) (T := TX4) (N := 16) hx hb hts in_X4 hown hK (hSep.cel (k := 0) rfl) 0 rfl rfl 14 (by decide) (hts _ q1487) (fun _ h9 => h9) rfl dX4_readText_109 ?_
                    refine lv_iload hx hb dX4_readText_112 (lv_at hl 0 rfl) ?_
                    refine n_iald (i := i) hx hb hK (hSep.cel (k := 2) rfl) 0 rfl (by omega) (by omega) dX4_readText_114 ?_
                    refine n_eq (y := (nI ((tW (T.take k)).getD i 0))) (hp9_3 i (by omega)) ?_
                    refine lv_iload_n hx hb dX4_readText_115 rfl (lv_at hl 3 rfl) ?_
                    refine lv_icmp_eq (tgt := 123) hx hb dX4_readText_116 (by decide) (fun c116 => ?_) (fun c116 => ?_)
                    · refine lv_iconst (v := (nI 0)) hx hb dX4_readText_123 (by decide) ?_
                      exact L124 false (⟨fun h => (by cases h), fun h => (by first | exact absurd (h.1.symm.trans c105) (by decide) | exact absurd c116 h.2)⟩) _ _ _ hSep hS (lv_sub hl [0, 1, 2, 3, 4, 5, 6] rfl)
                    · refine lv_iconst (v := (nI 1)) hx hb dX4_readText_119 (by decide) ?_
                      refine lv_goto (tgt := 124) hx hb dX4_readText_120 (by decide) ?_
                      exact L124 true (⟨fun _ => ⟨c105, c116⟩, fun _ => rfl⟩) _ _ _ hSep hS (lv_sub hl [0, 1, 2, 3, 4, 5, 6] rfl)
            exact L94 (t9 - 0 + 1) 0 m1 (Nat.lt_succ_self _) (Nat.zero_le _) (⟨fun h => ⟨h, fun j h2 => absurd h2 (Nat.not_lt_zero _)⟩, fun h => h.1⟩) _ _ _ hSep hS (lv_sub hl [0, 1, 2, 3, 4, 5, 6] rfl)
          refine lv_iload hx hb dX4_readText_43 (lv_at hl 0 rfl) ?_
          refine lv_if_ne (tgt := 58) hx hb dX4_readText_45 (by decide) (fun c45 => ?_) (fun c45 => ?_)
          · refine lv_iload hx hb dX4_readText_58 (lv_at hl 0 rfl) ?_
            refine lv_iconst (v := (nI 1)) hx hb dX4_readText_60 (by decide) ?_
            refine lv_icmp_ne (tgt := 69) hx hb dX4_readText_61 (by decide) (fun c61 => ?_) (fun c61 => ?_)
            · refine lv_iload hx hb dX4_readText_69 (lv_at hl 0 rfl) ?_
              refine lv_iconst (v := (nI 2)) hx hb dX4_readText_71 (by decide) ?_
              refine lv_icmp_ne (tgt := 88) hx hb dX4_readText_72 (by decide) (fun c72 => ?_) (fun c72 => ?_)
              · refine lv_iconst (v := (nI 0)) hx hb dX4_readText_88 (by decide) ?_
                exact L89 false (⟨fun h => (by cases h), fun h => absurd h (rd_not hp41_0 (fun w hk => gN_not hq5 (fun h => by rcases h with ⟨h, h2, h3⟩ | ⟨h, h2⟩ | ⟨h, h2⟩ <;> rw [h] at hk <;> first | exact c45 hk | exact c61 hk | exact c72 hk | omega)))⟩) _ _ _ hSep hS (lv_sub hl [0, 1, 2, 3, 4] rfl)
              · refine lv_iload_n hx hb dX4_readText_75 rfl (lv_at hl 3 rfl) ?_
                refine n_if_eq (tgt := 84) hx hb (by omega) dX4_readText_76 (by decide) (fun c76 => ?_) (fun c76 => ?_)
                · refine lv_iconst (v := (nI 1)) hx hb dX4_readText_84 (by decide) ?_
                  refine lv_goto (tgt := 89) hx hb dX4_readText_85 (by decide) ?_
                  exact L89 true (⟨fun _ => (by first | exact rd_may hp41_0 (d := 0) (by decide) c45 (fun w h => gN_may hq5 (Or.inl ⟨h, c50, c55⟩)) | exact rd_may hp41_0 (d := 1) (by decide) c61 (fun w h => gN_may hq5 (Or.inr (Or.inl ⟨h, c66⟩))) | exact rd_may hp41_0 (d := 2) (by decide) c72 (fun w h => gN_may hq5 (Or.inr (Or.inr ⟨h, by first | exact Or.inl c76 | exact Or.inr c81⟩)))), fun _ => rfl⟩) _ _ _ hSep hS (lv_sub hl [0, 1, 2, 3, 4] rfl)
                · refine lv_iload_n hx hb dX4_readText_79 rfl (lv_at hl 3 rfl) ?_
                  refine lv_iconst (v := (nI 3)) hx hb dX4_readText_80 (by decide) ?_
                  refine n_icmp_ne (tgt := 88) hx hb (by omega) (by omega) dX4_readText_81 (by decide) (fun c81 => ?_) (fun c81 => ?_)
                  · refine lv_iconst (v := (nI 0)) hx hb dX4_readText_88 (by decide) ?_
                    exact L89 false (⟨fun h => (by cases h), fun h => absurd h (rd_not hp41_0 (fun w hk => gN_not hq5 (fun h => by rcases h with ⟨h, h2, h3⟩ | ⟨h, h2⟩ | ⟨h, h2⟩ <;> rw [h] at hk <;> first | exact c45 hk | exact c61 hk | exact c72 hk | omega)))⟩) _ _ _ hSep hS (lv_sub hl [0, 1, 2, 3, 4] rfl)
                  · refine lv_iconst (v := (nI 1)) hx hb dX4_readText_84 (by decide) ?_
                    refine lv_goto (tgt := 89) hx hb dX4_readText_85 (by decide) ?_
                    exact L89 true (⟨fun _ => (by first | exact rd_may hp41_0 (d := 0) (by decide) c45 (fun w h => gN_may hq5 (Or.inl ⟨h, c50, c55⟩)) | exact rd_may hp41_0 (d := 1) (by decide) c61 (fun w h => gN_may hq5 (Or.inr (Or.inl ⟨h, c66⟩))) | exact rd_may hp41_0 (d := 2) (by decide) c72 (fun w h => gN_may hq5 (Or.inr (Or.inr ⟨h, by first | exact Or.inl c76 | exact Or.inr c81⟩)))), fun _ => rfl⟩) _ _ _ hSep hS (lv_sub hl [0, 1, 2, 3, 4] rfl)
            · refine lv_iload_n hx hb dX4_readText_64 rfl (lv_at hl 3 rfl) ?_
              refine lv_iconst (v := (nI 2)) hx hb dX4_readText_65 (by decide) ?_
              refine n_icmp_eq (tgt := 84) hx hb (by omega) (by omega) dX4_readText_66 (by decide) (fun c66 => ?_) (fun c66 => ?_)
              · refine lv_iconst (v := (nI 1)) hx hb dX4_readText_84 (by decide) ?_
                refine lv_goto (tgt := 89) hx hb dX4_readText_85 (by decide) ?_
                exact L89 true (⟨fun _ => (by first | exact rd_may hp41_0 (d := 0) (by decide) c45 (fun w h => gN_may hq5 (Or.inl ⟨h, c50, c55⟩)) | exact rd_may hp41_0 (d := 1) (by decide) c61 (fun w h => gN_may hq5 (Or.inr (Or.inl ⟨h, c66⟩))) | exact rd_may hp41_0 (d := 2) (by decide) c72 (fun w h => gN_may hq5 (Or.inr (Or.inr ⟨h, by first | exact Or.inl c76 | exact Or.inr c81⟩)))), fun _ => rfl⟩) _ _ _ hSep hS (lv_sub hl [0, 1, 2, 3, 4] rfl)
              · refine lv_iload hx hb dX4_readText_69 (lv_at hl 0 rfl) ?_
                refine lv_iconst (v := (nI 2)) hx hb dX4_readText_71 (by decide) ?_
                refine lv_icmp_ne (tgt := 88) hx hb dX4_readText_72 (by decide) (fun c72 => ?_) (fun c72 => ?_)
                · refine lv_iconst (v := (nI 0)) hx hb dX4_readText_88 (by decide) ?_
                  exact L89 false (⟨fun h => (by cases h), fun h => absurd h (rd_not hp41_0 (fun w hk => gN_not hq5 (fun h => by rcases h with ⟨h, h2, h3⟩ | ⟨h, h2⟩ | ⟨h, h2⟩ <;> rw [h] at hk <;> first | exact c45 hk | exact c61 hk | exact c72 hk | omega)))⟩) _ _ _ hSep hS (lv_sub hl [0, 1, 2, 3, 4] rfl)
                · refine lv_iload_n hx hb dX4_readText_75 rfl (lv_at hl 3 rfl) ?_
                  refine n_if_eq (tgt := 84) hx hb (by omega) dX4_readText_76 (by decide) (fun c76 => ?_) (fun c76 => ?_)
                  · refine lv_iconst (v := (nI 1)) hx hb dX4_readText_84 (by decide) ?_
                    refine lv_goto (tgt := 89) hx hb dX4_readText_85 (by decide) ?_
                    exact L89 true (⟨fun _ => (by first | exact rd_may hp41_0 (d := 0) (by decide) c45 (fun w h => gN_may hq5 (Or.inl ⟨h, c50, c55⟩)) | exact rd_may hp41_0 (d := 1) (by decide) c61 (fun w h => gN_may hq5 (Or.inr (Or.inl ⟨h, c66⟩))) | exact rd_may hp41_0 (d := 2) (by decide) c72 (fun w h => gN_may hq5 (Or.inr (Or.inr ⟨h, by first | exact Or.inl c76 | exact Or.inr c81⟩)))), fun _ => rfl⟩) _ _ _ hSep hS (lv_sub hl [0, 1, 2, 3, 4] rfl)
                  · refine lv_iload_n hx hb dX4_readText_79 rfl (lv_at hl 3 rfl) ?_
                    refine lv_iconst (v := (nI 3)) hx hb dX4_readText_80 (by decide) ?_
                    refine n_icmp_ne (tgt := 88) hx hb (by omega) (by omega) dX4_readText_81 (by decide) (fun c81 => ?_) (fun c81 => ?_)
                    · refine lv_iconst (v := (nI 0)) hx hb dX4_readText_88 (by decide) ?_
                      exact L89 false (⟨fun h => (by cases h), fun h => absurd h (rd_not hp41_0 (fun w hk => gN_not hq5 (fun h => by rcases h with ⟨h, h2, h3⟩ | ⟨h, h2⟩ | ⟨h, h2⟩ <;> rw [h] at hk <;> first | exact c45 hk | exact c61 hk | exact c72 hk | omega)))⟩) _ _ _ hSep hS (lv_sub hl [0, 1, 2, 3, 4] rfl)
                    · refine lv_iconst (v := (nI 1)) hx hb dX4_readText_84 (by decide) ?_
                      refine lv_goto (tgt := 89) hx hb dX4_readText_85 (by decide) ?_
                      exact L89 true (⟨fun _ => (by first | exact rd_may hp41_0 (d := 0) (by decide) c45 (fun w h => gN_may hq5 (Or.inl ⟨h, c50, c55⟩)) | exact rd_may hp41_0 (d := 1) (by decide) c61 (fun w h => gN_may hq5 (Or.inr (Or.inl ⟨h, c66⟩))) | exact rd_may hp41_0 (d := 2) (by decide) c72 (fun w h => gN_may hq5 (Or.inr (Or.inr ⟨h, by first | exact Or.inl c76 | exact Or.inr c81⟩)))), fun _ => rfl⟩) _ _ _ hSep hS (lv_sub hl [0, 1, 2, 3, 4] rfl)
          · refine lv_iload_n hx hb dX4_readText_48 rfl (lv_at hl 3 rfl) ?_
            refine lv_iconst (v := (nI 2)) hx hb dX4_readText_49 (by decide) ?_
            refine n_icmp_eq (tgt := 58) hx hb (by omega) (by omega) dX4_readText_50 (by decide) (fun c50 => ?_) (fun c50 => ?_)
            · refine lv_iload hx hb dX4_readText_58 (lv_at hl 0 rfl) ?_
              refine lv_iconst (v := (nI 1)) hx hb dX4_readText_60 (by decide) ?_
              refine lv_icmp_ne (tgt := 69) hx hb dX4_readText_61 (by decide) (fun c61 => ?_) (fun c61 => ?_)
              · refine lv_iload hx hb dX4_readText_69 (lv_at hl 0 rfl) ?_
                refine lv_iconst (v := (nI 2)) hx hb dX4_readText_71 (by decide) ?_
                refine lv_icmp_ne (tgt := 88) hx hb dX4_readText_72 (by decide) (fun c72 => ?_) (fun c72 => ?_)
                · refine lv_iconst (v := (nI 0)) hx hb dX4_readText_88 (by decide) ?_
                  exact L89 false (⟨fun h => (by cases h), fun h => absurd h (rd_not hp41_0 (fun w hk => gN_not hq5 (fun h => by rcases h with ⟨h, h2, h3⟩ | ⟨h, h2⟩ | ⟨h, h2⟩ <;> rw [h] at hk <;> first | exact c45 hk | exact c61 hk | exact c72 hk | omega)))⟩) _ _ _ hSep hS (lv_sub hl [0, 1, 2, 3, 4] rfl)
                · refine lv_iload_n hx hb dX4_readText_75 rfl (lv_at hl 3 rfl) ?_
                  refine n_if_eq (tgt := 84) hx hb (by omega) dX4_readText_76 (by decide) (fun c76 => ?_) (fun c76 => ?_)
                  · refine lv_iconst (v := (nI 1)) hx hb dX4_readText_84 (by decide) ?_
                    refine lv_goto (tgt := 89) hx hb dX4_readText_85 (by decide) ?_
                    exact L89 true (⟨fun _ => (by first | exact rd_may hp41_0 (d := 0) (by decide) c45 (fun w h => gN_may hq5 (Or.inl ⟨h, c50, c55⟩)) | exact rd_may hp41_0 (d := 1) (by decide) c61 (fun w h => gN_may hq5 (Or.inr (Or.inl ⟨h, c66⟩))) | exact rd_may hp41_0 (d := 2) (by decide) c72 (fun w h => gN_may hq5 (Or.inr (Or.inr ⟨h, by first | exact Or.inl c76 | exact Or.inr c81⟩)))), fun _ => rfl⟩) _ _ _ hSep hS (lv_sub hl [0, 1, 2, 3, 4] rfl)
                  · refine lv_iload_n hx hb dX4_readText_79 rfl (lv_at hl 3 rfl) ?_
                    refine lv_iconst (v := (nI 3)) hx hb dX4_readText_80 (by decide) ?_
                    refine n_icmp_ne (tgt := 88) hx hb (by omega) (by omega) dX4_readText_81 (by decide) (fun c81 => ?_) (fun c81 => ?_)
                    · refine lv_iconst (v := (nI 0)) hx hb dX4_readText_88 (by decide) ?_
                      exact L89 false (⟨fun h => (by cases h), fun h => absurd h (rd_not hp41_0 (fun w hk => gN_not hq5 (fun h => by rcases h with ⟨h, h2, h3⟩ | ⟨h, h2⟩ | ⟨h, h2⟩ <;> rw [h] at hk <;> first | exact c45 hk | exact c61 hk | exact c72 hk | omega)))⟩) _ _ _ hSep hS (lv_sub hl [0, 1, 2, 3, 4] rfl)
                    · refine lv_iconst (v := (nI 1)) hx hb dX4_readText_84 (by decide) ?_
                      refine lv_goto (tgt := 89) hx hb dX4_readText_85 (by decide) ?_
                      exact L89 true (⟨fun _ => (by first | exact rd_may hp41_0 (d := 0) (by decide) c45 (fun w h => gN_may hq5 (Or.inl ⟨h, c50, c55⟩)) | exact rd_may hp41_0 (d := 1) (by decide) c61 (fun w h => gN_may hq5 (Or.inr (Or.inl ⟨h, c66⟩))) | exact rd_may hp41_0 (d := 2) (by decide) c72 (fun w h => gN_may hq5 (Or.inr (Or.inr ⟨h, by first | exact Or.inl c76 | exact Or.inr c81⟩)))), fun _ => rfl⟩) _ _ _ hSep hS (lv_sub hl [0, 1, 2, 3, 4] rfl)
              · refine lv_iload_n hx hb dX4_readText_64 rfl (lv_at hl 3 rfl) ?_
                refine lv_iconst (v := (nI 2)) hx hb dX4_readText_65 (by decide) ?_
                refine n_icmp_eq (tgt := 84) hx hb (by omega) (by omega) dX4_readText_66 (by decide) (fun c66 => ?_) (fun c66 => ?_)
                · refine lv_iconst (v := (nI 1)) hx hb dX4_readText_84 (by decide) ?_
                  refine lv_goto (tgt := 89) hx hb dX4_readText_85 (by decide) ?_
                  exact L89 true (⟨fun _ => (by first | exact rd_may hp41_0 (d := 0) (by decide) c45 (fun w h => gN_may hq5 (Or.inl ⟨h, c50, c55⟩)) | exact rd_may hp41_0 (d := 1) (by decide) c61 (fun w h => gN_may hq5 (Or.inr (Or.inl ⟨h, c66⟩))) | exact rd_may hp41_0 (d := 2) (by decide) c72 (fun w h => gN_may hq5 (Or.inr (Or.inr ⟨h, by first | exact Or.inl c76 | exact Or.inr c81⟩)))), fun _ => rfl⟩) _ _ _ hSep hS (lv_sub hl [0, 1, 2, 3, 4] rfl)
                · refine lv_iload hx hb dX4_readText_69 (lv_at hl 0 rfl) ?_
                  refine lv_iconst (v := (nI 2)) hx hb dX4_readText_71 (by decide) ?_
                  refine lv_icmp_ne (tgt := 88) hx hb dX4_readText_72 (by decide) (fun c72 => ?_) (fun c72 => ?_)
                  · refine lv_iconst (v := (nI 0)) hx hb dX4_readText_88 (by decide) ?_
                    exact L89 false (⟨fun h => (by cases h), fun h => absurd h (rd_not hp41_0 (fun w hk => gN_not hq5 (fun h => by rcases h with ⟨h, h2, h3⟩ | ⟨h, h2⟩ | ⟨h, h2⟩ <;> rw [h] at hk <;> first | exact c45 hk | exact c61 hk | exact c72 hk | omega)))⟩) _ _ _ hSep hS (lv_sub hl [0, 1, 2, 3, 4] rfl)
                  · refine lv_iload_n hx hb dX4_readText_75 rfl (lv_at hl 3 rfl) ?_
                    refine n_if_eq (tgt := 84) hx hb (by omega) dX4_readText_76 (by decide) (fun c76 => ?_) (fun c76 => ?_)
                    · refine lv_iconst (v := (nI 1)) hx hb dX4_readText_84 (by decide) ?_
                      refine lv_goto (tgt := 89) hx hb dX4_readText_85 (by decide) ?_
                      exact L89 true (⟨fun _ => (by first | exact rd_may hp41_0 (d := 0) (by decide) c45 (fun w h => gN_may hq5 (Or.inl ⟨h, c50, c55⟩)) | exact rd_may hp41_0 (d := 1) (by decide) c61 (fun w h => gN_may hq5 (Or.inr (Or.inl ⟨h, c66⟩))) | exact rd_may hp41_0 (d := 2) (by decide) c72 (fun w h => gN_may hq5 (Or.inr (Or.inr ⟨h, by first | exact Or.inl c76 | exact Or.inr c81⟩)))), fun _ => rfl⟩) _ _ _ hSep hS (lv_sub hl [0, 1, 2, 3, 4] rfl)
                    · refine lv_iload_n hx hb dX4_readText_79 rfl (lv_at hl 3 rfl) ?_
                      refine lv_iconst (v := (nI 3)) hx hb dX4_readText_80 (by decide) ?_
                      refine n_icmp_ne (tgt := 88) hx hb (by omega) (by omega) dX4_readText_81 (by decide) (fun c81 => ?_) (fun c81 => ?_)
                      · refine lv_iconst (v := (nI 0)) hx hb dX4_readText_88 (by decide) ?_
                        exact L89 false (⟨fun h => (by cases h), fun h => absurd h (rd_not hp41_0 (fun w hk => gN_not hq5 (fun h => by rcases h with ⟨h, h2, h3⟩ | ⟨h, h2⟩ | ⟨h, h2⟩ <;> rw [h] at hk <;> first | exact c45 hk | exact c61 hk | exact c72 hk | omega)))⟩) _ _ _ hSep hS (lv_sub hl [0, 1, 2, 3, 4] rfl)
                      · refine lv_iconst (v := (nI 1)) hx hb dX4_readText_84 (by decide) ?_
                        refine lv_goto (tgt := 89) hx hb dX4_readText_85 (by decide) ?_
                        exact L89 true (⟨fun _ => (by first | exact rd_may hp41_0 (d := 0) (by decide) c45 (fun w h => gN_may hq5 (Or.inl ⟨h, c50, c55⟩)) | exact rd_may hp41_0 (d := 1) (by decide) c61 (fun w h => gN_may hq5 (Or.inr (Or.inl ⟨h, c66⟩))) | exact rd_may hp41_0 (d := 2) (by decide) c72 (fun w h => gN_may hq5 (Or.inr (Or.inr ⟨h, by first | exact Or.inl c76 | exact Or.inr c81⟩)))), fun _ => rfl⟩) _ _ _ hSep hS (lv_sub hl [0, 1, 2, 3, 4] rfl)
            · refine lv_iload_n hx hb dX4_readText_53 rfl (lv_at hl 3 rfl) ?_
              refine lv_iconst (v := (nI 5)) hx hb dX4_readText_54 (by decide) ?_
              refine n_icmp_ne (tgt := 84) hx hb (by omega) (by omega) dX4_readText_55 (by decide) (fun c55 => ?_) (fun c55 => ?_)
              · refine lv_iconst (v := (nI 1)) hx hb dX4_readText_84 (by decide) ?_
                refine lv_goto (tgt := 89) hx hb dX4_readText_85 (by decide) ?_
                exact L89 true (⟨fun _ => (by first | exact rd_may hp41_0 (d := 0) (by decide) c45 (fun w h => gN_may hq5 (Or.inl ⟨h, c50, c55⟩)) | exact rd_may hp41_0 (d := 1) (by decide) c61 (fun w h => gN_may hq5 (Or.inr (Or.inl ⟨h, c66⟩))) | exact rd_may hp41_0 (d := 2) (by decide) c72 (fun w h => gN_may hq5 (Or.inr (Or.inr ⟨h, by first | exact Or.inl c76 | exact Or.inr c81⟩)))), fun _ => rfl⟩) _ _ _ hSep hS (lv_sub hl [0, 1, 2, 3, 4] rfl)
              · refine lv_iload hx hb dX4_readText_58 (lv_at hl 0 rfl) ?_
                refine lv_iconst (v := (nI 1)) hx hb dX4_readText_60 (by decide) ?_
                refine lv_icmp_ne (tgt := 69) hx hb dX4_readText_61 (by decide) (fun c61 => ?_) (fun c61 => ?_)
                · refine lv_iload hx hb dX4_readText_69 (lv_at hl 0 rfl) ?_
                  refine lv_iconst (v := (nI 2)) hx hb dX4_readText_71 (by decide) ?_
                  refine lv_icmp_ne (tgt := 88) hx hb dX4_readText_72 (by decide) (fun c72 => ?_) (fun c72 => ?_)
                  · refine lv_iconst (v := (nI 0)) hx hb dX4_readText_88 (by decide) ?_
                    exact L89 false (⟨fun h => (by cases h), fun h => absurd h (rd_not hp41_0 (fun w hk => gN_not hq5 (fun h => by rcases h with ⟨h, h2, h3⟩ | ⟨h, h2⟩ | ⟨h, h2⟩ <;> rw [h] at hk <;> first | exact c45 hk | exact c61 hk | exact c72 hk | omega)))⟩) _ _ _ hSep hS (lv_sub hl [0, 1, 2, 3, 4] rfl)
                  · refine lv_iload_n hx hb dX4_readText_75 rfl (lv_at hl 3 rfl) ?_
                    refine n_if_eq (tgt := 84) hx hb (by omega) dX4_readText_76 (by decide) (fun c76 => ?_) (fun c76 => ?_)
                    · refine lv_iconst (v := (nI 1)) hx hb dX4_readText_84 (by decide) ?_
                      refine lv_goto (tgt := 89) hx hb dX4_readText_85 (by decide) ?_
                      exact L89 true (⟨fun _ => (by first | exact rd_may hp41_0 (d := 0) (by decide) c45 (fun w h => gN_may hq5 (Or.inl ⟨h, c50, c55⟩)) | exact rd_may hp41_0 (d := 1) (by decide) c61 (fun w h => gN_may hq5 (Or.inr (Or.inl ⟨h, c66⟩))) | exact rd_may hp41_0 (d := 2) (by decide) c72 (fun w h => gN_may hq5 (Or.inr (Or.inr ⟨h, by first | exact Or.inl c76 | exact Or.inr c81⟩)))), fun _ => rfl⟩) _ _ _ hSep hS (lv_sub hl [0, 1, 2, 3, 4] rfl)
                    · refine lv_iload_n hx hb dX4_readText_79 rfl (lv_at hl 3 rfl) ?_
                      refine lv_iconst (v := (nI 3)) hx hb dX4_readText_80 (by decide) ?_
                      refine n_icmp_ne (tgt := 88) hx hb (by omega) (by omega) dX4_readText_81 (by decide) (fun c81 => ?_) (fun c81 => ?_)
                      · refine lv_iconst (v := (nI 0)) hx hb dX4_readText_88 (by decide) ?_
                        exact L89 false (⟨fun h => (by cases h), fun h => absurd h (rd_not hp41_0 (fun w hk => gN_not hq5 (fun h => by rcases h with ⟨h, h2, h3⟩ | ⟨h, h2⟩ | ⟨h, h2⟩ <;> rw [h] at hk <;> first | exact c45 hk | exact c61 hk | exact c72 hk | omega)))⟩) _ _ _ hSep hS (lv_sub hl [0, 1, 2, 3, 4] rfl)
                      · refine lv_iconst (v := (nI 1)) hx hb dX4_readText_84 (by decide) ?_
                        refine lv_goto (tgt := 89) hx hb dX4_readText_85 (by decide) ?_
                        exact L89 true (⟨fun _ => (by first | exact rd_may hp41_0 (d := 0) (by decide) c45 (fun w h => gN_may hq5 (Or.inl ⟨h, c50, c55⟩)) | exact rd_may hp41_0 (d := 1) (by decide) c61 (fun w h => gN_may hq5 (Or.inr (Or.inl ⟨h, c66⟩))) | exact rd_may hp41_0 (d := 2) (by decide) c72 (fun w h => gN_may hq5 (Or.inr (Or.inr ⟨h, by first | exact Or.inl c76 | exact Or.inr c81⟩)))), fun _ => rfl⟩) _ _ _ hSep hS (lv_sub hl [0, 1, 2, 3, 4] rfl)
                · refine lv_iload_n hx hb dX4_readText_64 rfl (lv_at hl 3 rfl) ?_
                  refine lv_iconst (v := (nI 2)) hx hb dX4_readText_65 (by decide) ?_
                  refine n_icmp_eq (tgt := 84) hx hb (by omega) (by omega) dX4_readText_66 (by decide) (fun c66 => ?_) (fun c66 => ?_)
                  · refine lv_iconst (v := (nI 1)) hx hb dX4_readText_84 (by decide) ?_
                    refine lv_goto (tgt := 89) hx hb dX4_readText_85 (by decide) ?_
                    exact L89 true (⟨fun _ => (by first | exact rd_may hp41_0 (d := 0) (by decide) c45 (fun w h => gN_may hq5 (Or.inl ⟨h, c50, c55⟩)) | exact rd_may hp41_0 (d := 1) (by decide) c61 (fun w h => gN_may hq5 (Or.inr (Or.inl ⟨h, c66⟩))) | exact rd_may hp41_0 (d := 2) (by decide) c72 (fun w h => gN_may hq5 (Or.inr (Or.inr ⟨h, by first | exact Or.inl c76 | exact Or.inr c81⟩)))), fun _ => rfl⟩) _ _ _ hSep hS (lv_sub hl [0, 1, 2, 3, 4] rfl)
                  · refine lv_iload hx hb dX4_readText_69 (lv_at hl 0 rfl) ?_
                    refine lv_iconst (v := (nI 2)) hx hb dX4_readText_71 (by decide) ?_
                    refine lv_icmp_ne (tgt := 88) hx hb dX4_readText_72 (by decide) (fun c72 => ?_) (fun c72 => ?_)
                    · refine lv_iconst (v := (nI 0)) hx hb dX4_readText_88 (by decide) ?_
                      exact L89 false (⟨fun h => (by cases h), fun h => absurd h (rd_not hp41_0 (fun w hk => gN_not hq5 (fun h => by rcases h with ⟨h, h2, h3⟩ | ⟨h, h2⟩ | ⟨h, h2⟩ <;> rw [h] at hk <;> first | exact c45 hk | exact c61 hk | exact c72 hk | omega)))⟩) _ _ _ hSep hS (lv_sub hl [0, 1, 2, 3, 4] rfl)
                    · refine lv_iload_n hx hb dX4_readText_75 rfl (lv_at hl 3 rfl) ?_
                      refine n_if_eq (tgt := 84) hx hb (by omega) dX4_readText_76 (by decide) (fun c76 => ?_) (fun c76 => ?_)
                      · refine lv_iconst (v := (nI 1)) hx hb dX4_readText_84 (by decide) ?_
                        refine lv_goto (tgt := 89) hx hb dX4_readText_85 (by decide) ?_
                        exact L89 true (⟨fun _ => (by first | exact rd_may hp41_0 (d := 0) (by decide) c45 (fun w h => gN_may hq5 (Or.inl ⟨h, c50, c55⟩)) | exact rd_may hp41_0 (d := 1) (by decide) c61 (fun w h => gN_may hq5 (Or.inr (Or.inl ⟨h, c66⟩))) | exact rd_may hp41_0 (d := 2) (by decide) c72 (fun w h => gN_may hq5 (Or.inr (Or.inr ⟨h, by first | exact Or.inl c76 | exact Or.inr c81⟩)))), fun _ => rfl⟩) _ _ _ hSep hS (lv_sub hl [0, 1, 2, 3, 4] rfl)
                      · refine lv_iload_n hx hb dX4_readText_79 rfl (lv_at hl 3 rfl) ?_
                        refine lv_iconst (v := (nI 3)) hx hb dX4_readText_80 (by decide) ?_
                        refine n_icmp_ne (tgt := 88) hx hb (by omega) (by omega) dX4_readText_81 (by decide) (fun c81 => ?_) (fun c81 => ?_)
                        · refine lv_iconst (v := (nI 0)) hx hb dX4_readText_88 (by decide) ?_
                          exact L89 false (⟨fun h => (by cases h), fun h => absurd h (rd_not hp41_0 (fun w hk => gN_not hq5 (fun h => by rcases h with ⟨h, h2, h3⟩ | ⟨h, h2⟩ | ⟨h, h2⟩ <;> rw [h] at hk <;> first | exact c45 hk | exact c61 hk | exact c72 hk | omega)))⟩) _ _ _ hSep hS (lv_sub hl [0, 1, 2, 3, 4] rfl)
                        · refine lv_iconst (v := (nI 1)) hx hb dX4_readText_84 (by decide) ?_
                          refine lv_goto (tgt := 89) hx hb dX4_readText_85 (by decide) ?_
                          exact L89 true (⟨fun _ => (by first | exact rd_may hp41_0 (d := 0) (by decide) c45 (fun w h => gN_may hq5 (Or.inl ⟨h, c50, c55⟩)) | exact rd_may hp41_0 (d := 1) (by decide) c61 (fun w h => gN_may hq5 (Or.inr (Or.inl ⟨h, c66⟩))) | exact rd_may hp41_0 (d := 2) (by decide) c72 (fun w h => gN_may hq5 (Or.inr (Or.inr ⟨h, by first | exact Or.inl c76 | exact Or.inr c81⟩)))), fun _ => rfl⟩) _ _ _ hSep hS (lv_sub hl [0, 1, 2, 3, 4] rfl)
        refine lv_iload_n hx hb dX4_readText_27 rfl (lv_at hl 0 rfl) ?_
        have hFk_4 : ∀ q, Fz (fun _ => False) H.size q → (Fz F s.heap.size) q := fun q h => by rcases h with h | h; exact h.elim; exact Fz.new (Nat.le_trans hS.1 h)
        have hPk_4 : Sep G.1 clA (Fz (fun _ => False) H.size) [] H := sp_nil
        have hJk_4 := sp_nilJ (F := (fun _ => False)) hSep (fun _ => id) hFk_4
        refine c_i (va_runS (As := [.int (nI (T.getD k 0) - nI 97)]) (rest := []) ⟨hx, hb, hml, hown, hts⟩ (m_X4_isWord l G H.size (nI (T.getD k 0) - nI 97) ) (va_cwS 1 hts (lw_S q1551 q1552 q44 q1553) rfl rfl rfl (by decide +kernel) ⟨Nat.le_of_ble_eq_true rfl, Nat.le_of_ble_eq_true rfl⟩) (sp_preS hE hS hFk_4 hPk_4 trivial) rfl rfl hl.1 rfl (lv_room (Nat.le_of_ble_eq_true rfl)) dX4_readText_28 ⟨by first | exact Nat.le_of_ble_eq_true rfl | omega | (dsimp only; omega), by first | exact Nat.le_of_ble_eq_true rfl | omega | (dsimp only; omega)⟩) hS hFk_4 hJk_4 (fun r_5 u_6 H locs hpk_4 hSep hS hzk_4 => ?_)
        obtain rfl : r_5 = (bI (inR (nI (T.getD k 0) - nI 97).toInt 0 17)) := hpk_4
        refine W.cs (cells' := 0) (slots' := 0) rfl rfl ?_
        have hSep : Sep G.1 clA (Fz F s.heap.size) [pts mo (.inr (3, [.int fR, .ref aT, .int (nI T.length), .ref aN, .ref aL, .ref aP, .ref aD, .int (nI ac), .ref aK, .ref aZ, .ref aG, .ref aB, .int (nI bl), .int bp, .ref aS, .int (nI t9)])), pts aT (.inl (G.2.1 0, 20, .inl fT)), pts aS (.inl (G.2.1 0, 5, .inl fS9))] H := hSep
        refine n_eq (y := (bI ((txW (T.getD k 0)).isSome))) (by rw [htx.1]) ?_
        refine b_if_eq (tgt := 40) hx hb dX4_readText_31 (by decide) (fun c31 => ?_) (fun c31 => ?_)
        · refine lv_iconst (v := (-1)) hx hb dX4_readText_40 (by decide) ?_
          exact L41 (-1) (by left; exact ⟨Option.not_isSome_iff_eq_none.mp (by rw [c31]; decide), rfl⟩) _ _ _ hSep hS (lv_sub hl [0, 1, 2, 3] rfl)
        · refine lv_iload_n hx hb dX4_readText_34 rfl (lv_at hl 0 rfl) ?_
          refine lv_iconst (v := (nI 3)) hx hb dX4_readText_35 (by decide) ?_
          refine lv_irem hx hb dX4_readText_36 (by decide) ?_
          refine lv_goto (tgt := 41) hx hb dX4_readText_37 (by decide) ?_
          exact L41 ((nI (T.getD k 0) - nI 97) - (nI (T.getD k 0) - nI 97) / (nI 3) * (nI 3)) (by obtain ⟨w9, hw9⟩ := Option.isSome_iff_exists.mp c31; have hw8 := htx.2 w9 hw9; exact Or.inr ⟨w9, hw9, hw8, by have h18 := (txW_w hw9).2; rw [hw8, pk_rem (a := w9) (d := 3) (by omega) (by decide) (by decide)]⟩) _ _ _ hSep hS (lv_sub hl [0, 1, 2, 3] rfl)
  exact L9 (T.length - 0 + 1) 0 0 fS 0 (Nat.lt_succ_self _) (Nat.zero_le _) (rfl) (by decide) (Pre.nil) (rfl) (by simp [tW]) (by simp [tW]) _ _ _ hSep hS (lv_sub hl [0, 1, 2] rfl)
