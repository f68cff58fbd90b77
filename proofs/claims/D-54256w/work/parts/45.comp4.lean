set_option maxRecDepth 100000
set_option maxHeartbeats 600000 in
set_option maxRecDepth 100000 in
theorem m_X9_init_2 (l : Launch) (G : EVT) (F : Nat → Prop) (sz : Nat) (q1 : Nat) (x : Int32)  : Met l yX9_init_2 (ws_ yX9_init_2 cX9_init_2 2 none) ({ frames := 1, cells := 0, slots := 0, locals := 34 } : Room) (SPc G F sz [.ref q1, .int x] [pts q1 (.inr (7, [.int (nI 0), .int (nI 0), .int (bI false), .int (nI 0)]))] (fun _ => True)) (SQv G F sz (fun (u : Unit) => True) (fun (u : Unit) => [pts q1 (.inr (7, [.int x, .int (nI 0), .int (bI false), .int (nI 0)]))])) (0) (0) (Fz F sz) := by
  refine sp_of RX9 (by decide) rfl (Nat.le_of_ble_eq_true rfl) ?_
  intro p e s m args below meth c ls QQ hx hb hr hts hown hlocks hml hnm hsz hSep hΦ hE hS hl hQ
  subst hsz
  have hK := hE.1
  have hl : lv_has ls 2 [(0, .ref q1), (1, .int x)] := hl
  refine lv_aload_n hx hb dX9_init_2_0 rfl (lv_at hl 0 rfl) ?_
  refine W.objInit hx hb hown (hts _ q526) (hts _ q81) (hts _ q82) rfl (by rw [hml]; exact hl.1) rfl dX9_init_2_1 (Nat.le_of_ble_eq_true rfl) (Nat.le_of_ble_eq_true rfl) ?_
  refine W.eq (g2 := F0 m 4 ls []) rfl ?_
  refine lv_aload_n hx hb dX9_init_2_4 rfl (lv_at hl 0 rfl) ?_
  refine lv_iload_n hx hb dX9_init_2_5 rfl (lv_at hl 1 rfl) ?_
  refine s_putF (ci := 7) (v := .int x) (ty := .int) (C := RX9) (T := TX9) (N := 4) hx hb hts in_X9 tyX9 tyX9_ok nmX9 hown hK hSep hS 0 rfl rfl 0 (by decide) (hts _ q527) (fun _ h9 => h9) rfl hnm rfl (by decide +kernel) rfl rfl (Nat.le_of_ble_eq_true rfl) dX9_init_2_6 (fun H locs hSep hS => ?_)
  have hSep : Sep G.1 clA (Fz F s.heap.size) [pts q1 (.inr (7, [.int x, .int (nI 0), .int (bI false), .int (nI 0)]))] H := hSep
  rw [hQ]
  exact r_v (u := ()) hx hb hr (trivial) hSep hS (by first | exact Nat.le_of_ble_eq_true rfl | omega | (dsimp only; omega)) (by first | exact Nat.le_of_ble_eq_true rfl | omega | (dsimp only; omega)) dX9_init_2_9 hlocks

set_option maxHeartbeats 600000 in
set_option maxRecDepth 100000 in
theorem m_X9_init (l : Launch) (G : EVT) (F : Nat → Prop) (sz : Nat) (q1 : Nat) (q2 : Nat) (lk : Int32) (bo : Int32) (gn : Bool) (po : Int32)  : Met l yX9_init (ws_ yX9_init cX9_init 2 none) ({ frames := 2, cells := 0, slots := 0, locals := 55 } : Room) (SPc G F sz [.ref q1, .ref q2] [pts q1 (.inr (7, [.int (nI 0), .int (nI 0), .int (bI false), .int (nI 0)])), pts q2 (.inr (7, [.int lk, .int bo, .int (bI gn), .int po]))] (fun _ => True)) (SQv G F sz (fun (u : Unit) => True) (fun (u : Unit) => [pts q1 (.inr (7, [.int lk, .int bo, .int (bI gn), .int po])), pts q2 (.inr (7, [.int lk, .int bo, .int (bI gn), .int po]))])) (0) (0) (Fz F sz) := by
  refine sp_of RX9 (by decide) rfl (Nat.le_of_ble_eq_true rfl) ?_
  intro p e s m args below meth c ls QQ hx hb hr hts hown hlocks hml hnm hsz hSep hΦ hE hS hl hQ
  subst hsz
  have hK := hE.1
  have hl : lv_has ls 2 [(0, .ref q1), (1, .ref q2)] := hl
  refine lv_aload_n hx hb dX9_init_0 rfl (lv_at hl 0 rfl) ?_
  refine lv_aload_n hx hb dX9_init_1 rfl (lv_at hl 1 rfl) ?_
  refine va_get (D := G.1) (ci := 7) (v := .int lk) (C := RX9) (T := TX9) (N := 4) hx hb hts in_X9 hown hK (hSep.cel (k := 1) rfl) 0 rfl rfl 0 (by decide) (hts _ q527) (fun _ h9 => h9) rfl dX9_init_2 ?_
  obtain ⟨Fk_1, hFk_1, hPk_1, hJk_1⟩ := hSep.cut (Pc := [pts q1 (.inr (7, [.int (nI 0), .int (nI 0), .int (bI false), .int (nI 0)]))]) (Pr := [pts q2 (.inr (7, [.int lk, .int bo, .int (bI gn), .int po]))]) (fun q h => Fz.new (Nat.le_trans hS.1 h)) [0] [1] rfl rfl rfl rfl (by decide)
  refine c_v (va_runI (As := [.int lk]) (rest := []) ⟨hx, hb, hml, hown, hts⟩ (m_X9_init_2 l G Fk_1 s.heap.size q1 lk ) (cwI 1 hts (lw_meth q525) rfl rfl rfl (hts _ q66) (hts _ q523) (hts _ q524) rfl (by decide +kernel) ⟨Nat.le_of_ble_eq_true rfl, Nat.le_of_ble_eq_true rfl⟩) (sp_preS hE hS hFk_1 hPk_1 trivial) rfl rfl hl.1 rfl (lv_room (Nat.le_of_ble_eq_true rfl)) dX9_init_5 ⟨by first | exact Nat.le_of_ble_eq_true rfl | omega | (dsimp only; omega), by first | exact Nat.le_of_ble_eq_true rfl | omega | (dsimp only; omega)⟩) hS hFk_1 hJk_1 (fun u_3 H locs hpk_1 hSep hS hzk_1 => ?_)
  refine W.cs (cells' := 0) (slots' := 0) rfl rfl ?_
  have hSep : Sep G.1 clA (Fz F s.heap.size) [pts q2 (.inr (7, [.int lk, .int bo, .int (bI gn), .int po])), pts q1 (.inr (7, [.int lk, .int (nI 0), .int (bI false), .int (nI 0)]))] H := hSep
  refine lv_aload_n hx hb dX9_init_8 rfl (lv_at hl 0 rfl) ?_
  refine lv_aload_n hx hb dX9_init_9 rfl (lv_at hl 1 rfl) ?_
  refine va_get (D := G.1) (ci := 7) (v := .int bo) (C := RX9) (T := TX9) (N := 4) hx hb hts in_X9 hown hK (hSep.cel (k := 0) rfl) 0 rfl rfl 1 (by decide) (hts _ q530) (fun _ h9 => h9) rfl dX9_init_10 ?_
  refine s_put (ci := 7) (v := .int bo) (ty := .int) (C := RX9) (T := TX9) (N := 4) hx hb hts in_X9 tyX9 tyX9_ok nmX9 hown hK hSep hS 1 rfl rfl 1 (by decide) (hts _ q530) (fun _ h9 => h9) rfl (by decide +kernel) rfl rfl (Nat.le_of_ble_eq_true rfl) dX9_init_13 (fun H locs hSep hS => ?_)
  have hSep : Sep G.1 clA (Fz F s.heap.size) [pts q2 (.inr (7, [.int lk, .int bo, .int (bI gn), .int po])), pts q1 (.inr (7, [.int lk, .int bo, .int (bI false), .int (nI 0)]))] H := hSep
  refine lv_aload_n hx hb dX9_init_16 rfl (lv_at hl 0 rfl) ?_
  refine lv_aload_n hx hb dX9_init_17 rfl (lv_at hl 1 rfl) ?_
  refine va_get (D := G.1) (ci := 7) (v := .int (bI gn)) (C := RX9) (T := TX9) (N := 4) hx hb hts in_X9 hown hK (hSep.cel (k := 0) rfl) 0 rfl rfl 2 (by decide) (hts _ q532) (fun _ h9 => h9) rfl dX9_init_18 ?_
  refine s_put (ci := 7) (v := .int (bI gn)) (ty := .boolean) (C := RX9) (T := TX9) (N := 4) hx hb hts in_X9 tyX9 tyX9_ok nmX9 hown hK hSep hS 1 rfl rfl 2 (by decide) (hts _ q532) (fun _ h9 => h9) rfl (by decide +kernel) (bI_nar _) (bI_fits _) (Nat.le_of_ble_eq_true rfl) dX9_init_21 (fun H locs hSep hS => ?_)
  have hSep : Sep G.1 clA (Fz F s.heap.size) [pts q2 (.inr (7, [.int lk, .int bo, .int (bI gn), .int po])), pts q1 (.inr (7, [.int lk, .int bo, .int (bI gn), .int (nI 0)]))] H := hSep
  refine lv_aload_n hx hb dX9_init_24 rfl (lv_at hl 0 rfl) ?_
  refine lv_aload_n hx hb dX9_init_25 rfl (lv_at hl 1 rfl) ?_
  refine va_get (D := G.1) (ci := 7) (v := .int po) (C := RX9) (T := TX9) (N := 4) hx hb hts in_X9 hown hK (hSep.cel (k := 0) rfl) 0 rfl rfl 3 (by decide) (hts _ q535) (fun _ h9 => h9) rfl dX9_init_26 ?_
  refine s_put (ci := 7) (v := .int po) (ty := .int) (C := RX9) (T := TX9) (N := 4) hx hb hts in_X9 tyX9 tyX9_ok nmX9 hown hK hSep hS 1 rfl rfl 3 (by decide) (hts _ q535) (fun _ h9 => h9) rfl (by decide +kernel) rfl rfl (Nat.le_of_ble_eq_true rfl) dX9_init_29 (fun H locs hSep hS => ?_)
  have hSep : Sep G.1 clA (Fz F s.heap.size) [pts q2 (.inr (7, [.int lk, .int bo, .int (bI gn), .int po])), pts q1 (.inr (7, [.int lk, .int bo, .int (bI gn), .int po]))] H := hSep
  rw [hQ]
  exact r_v (u := ()) hx hb hr (trivial) (hSep.pick [1, 0] rfl rfl) hS (by first | exact Nat.le_of_ble_eq_true rfl | omega | (dsimp only; omega)) (by first | exact Nat.le_of_ble_eq_true rfl | omega | (dsimp only; omega)) dX9_init_32 hlocks

set_option maxHeartbeats 600000 in
set_option maxRecDepth 100000 in
theorem m_X9_gives (l : Launch) (G : EVT) (sz : Nat) (q1 : Nat) (lk : Int32) (bo : Int32) (gn : Bool) (po : Int32) (x : Int32) (Ws : Nat → Bool) (hx9 : x = mkS Ws 18) : Met l yX9_gives (ws_ yX9_gives cX9_gives 2 (some .int)) ({ frames := 1, cells := 0, slots := 0, locals := 20 } : Room) (SPc G (fun _ => False) sz [.ref q1, .int x] [] (fun H => va_P G.1 clA [(q1, .inr (7, [.int lk, .int bo, .int (bI gn), .int po]))] H)) (SQi G (fun _ => False) sz (fun (r : Int32) (u : Unit) => r = (nI (gvN gn lk Ws))) (fun (u : Unit) => [])) (0) (0) (Fz (fun _ => False) sz) := by
  refine sp_of RX9 (by decide) rfl (Nat.le_of_ble_eq_true rfl) ?_
  intro p e s m args below meth c ls QQ hx hb hr hts hown hlocks hml hnm hsz hSep hΦ hE hS hl hQ
  subst hsz
  have hK := hE.1
  have hl : lv_has ls 2 [(0, .ref q1), (1, .int x)] := hl
  subst hx9
  refine lv_aload_n hx hb dX9_gives_0 rfl (lv_at hl 0 rfl) ?_
  refine va_get (D := G.1) (ci := 7) (v := .int (bI gn)) (C := RX9) (T := TX9) (N := 4) hx hb hts in_X9 hown hK (ro0 hΦ hS) 0 rfl rfl 2 (by decide) (hts _ q532) (fun _ h9 => h9) rfl dX9_gives_1 ?_
  refine b_if_eq (tgt := 11) hx hb dX9_gives_4 (by decide) (fun c4 => ?_) (fun c4 => ?_)
  · refine lv_aload_n hx hb dX9_gives_11 rfl (lv_at hl 0 rfl) ?_
    refine va_get (D := G.1) (ci := 7) (v := .int lk) (C := RX9) (T := TX9) (N := 4) hx hb hts in_X9 hown hK (ro0 hΦ hS) 0 rfl rfl 0 (by decide) (hts _ q527) (fun _ h9 => h9) rfl dX9_gives_12 ?_
    refine lv_iload_n hx hb dX9_gives_15 rfl (lv_at hl 1 rfl) ?_
    refine lv_iand hx hb dX9_gives_16 ?_
    refine n_eq (y := (nI (natS (fun w => bitI lk w && Ws w) 18))) (and_mkS lk Ws) ?_
    have hFk_1 : ∀ q, Fz (fun _ => False) s.heap.size q → (Fz (fun _ => False) s.heap.size) q := fun q h => by rcases h with h | h; exact h.elim; exact Fz.new (Nat.le_trans hS.1 h)
    have hPk_1 : Sep G.1 clA (Fz (fun _ => False) s.heap.size) [] s.heap := sp_nil
    have hJk_1 := sp_nilJ (F := (fun _ => False)) hSep (fun _ => id) hFk_1
    refine c_i (va_runS (As := [.int (nI (natS (fun w => bitI lk w && Ws w) 18))]) (rest := []) ⟨hx, hb, hml, hown, hts⟩ (m_J23_bitCount l G s.heap.size (natS (fun w => bitI lk w && Ws w) 18) (fun w => bitI lk w && Ws w) (rfl)) (va_cwS 1 hts (lw_S q1028 q931 q72 q932) rfl rfl rfl (by decide +kernel) ⟨Nat.le_of_ble_eq_true rfl, Nat.le_of_ble_eq_true rfl⟩) (sp_preS hE hS hFk_1 hPk_1 trivial) rfl rfl hl.1 rfl (lv_room (Nat.le_of_ble_eq_true rfl)) dX9_gives_17 ⟨by first | exact Nat.le_of_ble_eq_true rfl | omega | (dsimp only; omega), by first | exact Nat.le_of_ble_eq_true rfl | omega | (dsimp only; omega)⟩) hS hFk_1 hJk_1 (fun r_2 u_3 H locs hpk_1 hSep hS hzk_1 => ?_)
    obtain rfl : r_2 = (nI (cntB (fun w => bitI lk w && Ws w) 18)) := hpk_1
    refine W.cs (cells' := 0) (slots' := 0) rfl rfl ?_
    have hSep : Sep G.1 clA (Fz (fun _ => False) s.heap.size) [] H := hSep
    rw [hQ]
    exact r_i (r := (nI (cntB (fun w => bitI lk w && Ws w) 18))) (u := ()) hx hb hr (by unfold gvN; first | (rw [if_pos c4]) | (rw [if_neg (by rw [c4]; decide)])) hSep hS (by first | exact Nat.le_of_ble_eq_true rfl | omega | (dsimp only; omega)) (by first | exact Nat.le_of_ble_eq_true rfl | omega | (dsimp only; omega)) dX9_gives_20 hlocks
  · refine lv_iconst (v := (nI 0)) hx hb dX9_gives_7 (by decide) ?_
    refine lv_goto (tgt := 20) hx hb dX9_gives_8 (by decide) ?_
    rw [hQ]
    exact r_i (r := (nI 0)) (u := ()) hx hb hr (by unfold gvN; first | (rw [if_pos c4]) | (rw [if_neg (by rw [c4]; decide)])) hSep hS (by first | exact Nat.le_of_ble_eq_true rfl | omega | (dsimp only; omega)) (by first | exact Nat.le_of_ble_eq_true rfl | omega | (dsimp only; omega)) dX9_gives_20 hlocks

set_option maxHeartbeats 600000 in
set_option maxRecDepth 100000 in
theorem m_X9_hear (l : Launch) (G : EVT) (F : Nat → Prop) (sz : Nat) (q1 : Nat) (lk : Int32) (bo : Int32) (gn : Bool) (po : Int32) (x : Int32) (mo : Int32) (Ws : Nat → Bool) (hx9 : x = mkS Ws 18) : Met l yX9_hear (ws_ yX9_hear cX9_hear 4 none) ({ frames := 2, cells := 0, slots := 0, locals := 41 } : Room) (SPc G F sz [.ref q1, .int x, .int mo] [pts q1 (.inr (7, [.int lk, .int bo, .int (bI gn), .int po]))] (fun _ => True)) (SQv G F sz (fun (u : Unit) => True) (fun (u : Unit) => [pts q1 (.inr (7, [.int lk, .int (hrB gn bo (gvN gn lk Ws)), .int (bI (hrG gn bo (gvN gn lk Ws) mo)), .int (po + nI (gvN gn lk Ws))]))])) (0) (0) (Fz F sz) := by
  refine sp_of RX9 (by decide) rfl (Nat.le_of_ble_eq_true rfl) ?_
  intro p e s m args below meth c ls QQ hx hb hr hts hown hlocks hml hnm hsz hSep hΦ hE hS hl hQ
  subst hsz
  have hK := hE.1
  have hl : lv_has ls 4 [(0, .ref q1), (1, .int x), (2, .int mo)] := hl
  have hle := gvN_le gn lk Ws
  refine lv_aload_n hx hb dX9_hear_0 rfl (lv_at hl 0 rfl) ?_
  refine lv_iload_n hx hb dX9_hear_1 rfl (lv_at hl 1 rfl) ?_
  have hFk_1 : ∀ q, Fz (fun _ => False) s.heap.size q → (Fz F s.heap.size) q := fun q h => by rcases h with h | h; exact h.elim; exact Fz.new (Nat.le_trans hS.1 h)
  have hPk_1 : Sep G.1 clA (Fz (fun _ => False) s.heap.size) [] s.heap := sp_nil
  have hJk_1 := sp_nilJ (F := (fun _ => False)) hSep (fun _ => id) hFk_1
  refine c_i (va_runV (As := [.int x]) (rest := []) ⟨hx, hb, hml, hown, hts⟩ (m_X9_gives l G s.heap.size q1 lk bo gn po x Ws (by first | assumption | omega)) (cwV 1 hts (lw_V q1245 q1025 q1026 q66 q1027) rfl rfl rfl (by decide +kernel) ⟨Nat.le_of_ble_eq_true rfl, Nat.le_of_ble_eq_true rfl⟩) (sp_preV hE hS hFk_1 hPk_1 (hSep.cel (k := 0) rfl) (sp_recv (ci := 7) hK (hSep.cel (k := 0) rfl) rfl)) rfl rfl hl.1 rfl (lv_room (Nat.le_of_ble_eq_true rfl)) dX9_hear_2 ⟨by first | exact Nat.le_of_ble_eq_true rfl | omega | (dsimp only; omega), by first | exact Nat.le_of_ble_eq_true rfl | omega | (dsimp only; omega)⟩) hS hFk_1 hJk_1 (fun r_2 u_3 H locs hpk_1 hSep hS hzk_1 => ?_)
  obtain rfl : r_2 = (nI (gvN gn lk Ws)) := hpk_1
  refine W.cs (cells' := 0) (slots' := 0) rfl rfl ?_
  have hSep : Sep G.1 clA (Fz F s.heap.size) [pts q1 (.inr (7, [.int lk, .int bo, .int (bI gn), .int po]))] H := hSep
  refine lv_istore_n (lv' := [(3, .int (nI (gvN gn lk Ws))), (0, .ref q1), (1, .int x), (2, .int mo)]) hx hb dX9_hear_5 rfl hl (by decide) rfl (fun ls hl => ?_)
  refine lv_aload_n hx hb dX9_hear_6 rfl (lv_at hl 1 rfl) ?_
  refine lv_dup hx hb dX9_hear_7 rfl ?_
  refine va_get (D := G.1) (ci := 7) (v := .int po) (C := RX9) (T := TX9) (N := 4) hx hb hts in_X9 hown hK (hSep.cel (k := 0) rfl) 0 rfl rfl 3 (by decide) (hts _ q535) (fun _ h9 => h9) rfl dX9_hear_8 ?_
  refine lv_iload_n hx hb dX9_hear_11 rfl (lv_at hl 0 rfl) ?_
  refine lv_iadd hx hb dX9_hear_12 ?_
  refine s_put (ci := 7) (v := .int (po + (nI (gvN gn lk Ws)))) (ty := .int) (C := RX9) (T := TX9) (N := 4) hx hb hts in_X9 tyX9 tyX9_ok nmX9 hown hK hSep hS 0 rfl rfl 3 (by decide) (hts _ q535) (fun _ h9 => h9) rfl (by decide +kernel) rfl rfl (Nat.le_of_ble_eq_true rfl) dX9_hear_13 (fun H locs hSep hS => ?_)
  have hSep : Sep G.1 clA (Fz F s.heap.size) [pts q1 (.inr (7, [.int lk, .int bo, .int (bI gn), .int (po + (nI (gvN gn lk Ws)))]))] H := hSep
  refine lv_aload_n hx hb dX9_hear_16 rfl (lv_at hl 1 rfl) ?_
  have L45 : ∀ (v9 : Int32) , (v9 = hrB gn bo (gvN gn lk Ws)) → ∀ (H : Heap) (locs : List Loc) (ls : Array Slot), Sep G.1 clA (Fz F s.heap.size) [pts q1 (.inr (7, [.int lk, .int bo, .int (bI gn), .int (po + (nI (gvN gn lk Ws)))]))] H → va_S (Fz F s.heap.size) s.heap H locs → lv_has ls 4 [(3, .int (nI (gvN gn lk Ws))), (0, .ref q1), (1, .int x), (2, .int mo)] → W p l e ({ frames := 2, cells := 0, slots := 0, locals := 41 } : Room) s m args below meth c H locs (0) (0) QQ (F0 m 45 ls [.int v9, .ref q1]) := by
    intro v9 hp45_0 H locs ls hSep hS hl
    refine s_put (ci := 7) (v := .int v9) (ty := .int) (C := RX9) (T := TX9) (N := 4) hx hb hts in_X9 tyX9 tyX9_ok nmX9 hown hK hSep hS 0 rfl rfl 1 (by decide) (hts _ q530) (fun _ h9 => h9) rfl (by decide +kernel) rfl rfl (Nat.le_of_ble_eq_true rfl) dX9_hear_45 (fun H locs hSep hS => ?_)
    have hSep : Sep G.1 clA (Fz F s.heap.size) [pts q1 (.inr (7, [.int lk, .int v9, .int (bI gn), .int (po + (nI (gvN gn lk Ws)))]))] H := hSep
    refine lv_aload_n hx hb dX9_hear_48 rfl (lv_at hl 1 rfl) ?_
    have L69 : ∀ (b9 : Bool) , (b9 = hrG gn bo (gvN gn lk Ws) mo) → ∀ (H : Heap) (locs : List Loc) (ls : Array Slot), Sep G.1 clA (Fz F s.heap.size) [pts q1 (.inr (7, [.int lk, .int v9, .int (bI gn), .int (po + (nI (gvN gn lk Ws)))]))] H → va_S (Fz F s.heap.size) s.heap H locs → lv_has ls 4 [(3, .int (nI (gvN gn lk Ws))), (0, .ref q1), (1, .int x), (2, .int mo)] → W p l e ({ frames := 2, cells := 0, slots := 0, locals := 41 } : Room) s m args below meth c H locs (0) (0) QQ (F0 m 69 ls [.int (bI b9), .ref q1]) := by
      intro b9 hp69_0 H locs ls hSep hS hl
      refine s_put (ci := 7) (v := .int (bI b9)) (ty := .boolean) (C := RX9) (T := TX9) (N := 4) hx hb hts in_X9 tyX9 tyX9_ok nmX9 hown hK hSep hS 0 rfl rfl 2 (by decide) (hts _ q532) (fun _ h9 => h9) rfl (by decide +kernel) (bI_nar _) (bI_fits _) (Nat.le_of_ble_eq_true rfl) dX9_hear_69 (fun H locs hSep hS => ?_)
      have hSep : Sep G.1 clA (Fz F s.heap.size) [pts q1 (.inr (7, [.int lk, .int v9, .int (bI b9), .int (po + (nI (gvN gn lk Ws)))]))] H := hSep
      rw [hQ]
      exact r_v (u := ()) hx hb hr (trivial) (by rw [← hp45_0, ← hp69_0]; exact hSep) hS (by first | exact Nat.le_of_ble_eq_true rfl | omega | (dsimp only; omega)) (by first | exact Nat.le_of_ble_eq_true rfl | omega | (dsimp only; omega)) dX9_hear_72 hlocks
    refine lv_aload_n hx hb dX9_hear_49 rfl (lv_at hl 1 rfl) ?_
    refine va_get (D := G.1) (ci := 7) (v := .int (bI gn)) (C := RX9) (T := TX9) (N := 4) hx hb hts in_X9 hown hK (hSep.cel (k := 0) rfl) 0 rfl rfl 2 (by decide) (hts _ q532) (fun _ h9 => h9) rfl dX9_hear_50 ?_
    refine b_if_ne (tgt := 64) hx hb dX9_hear_53 (by decide) (fun c53 => ?_) (fun c53 => ?_)
    · refine lv_iconst (v := (nI 1)) hx hb dX9_hear_64 (by decide) ?_
      refine lv_goto (tgt := 69) hx hb dX9_hear_65 (by decide) ?_
      exact L69 true (by unfold hrG; first | (rw [c53]; rfl) | (rw [← hp45_0, decide_eq_true (Int32.not_lt.mp c61), Bool.or_true])) _ _ _ hSep hS (lv_sub hl [0, 1, 2, 3] rfl)
    · refine lv_aload_n hx hb dX9_hear_56 rfl (lv_at hl 1 rfl) ?_
      refine va_get (D := G.1) (ci := 7) (v := .int v9) (C := RX9) (T := TX9) (N := 4) hx hb hts in_X9 hown hK (hSep.cel (k := 0) rfl) 0 rfl rfl 1 (by decide) (hts _ q530) (fun _ h9 => h9) rfl dX9_hear_57 ?_
      refine lv_iload_n hx hb dX9_hear_60 rfl (lv_at hl 3 rfl) ?_
      refine n_eq (y := mo) (rfl) ?_
      refine lv_icmp_lt (tgt := 68) hx hb dX9_hear_61 (by decide) (fun c61 => ?_) (fun c61 => ?_)
      · refine lv_iconst (v := (nI 0)) hx hb dX9_hear_68 (by decide) ?_
        exact L69 false (by unfold hrG; rw [← hp45_0, c53, decide_eq_false (Int32.not_le.mpr c61)]; rfl) _ _ _ hSep hS (lv_sub hl [0, 1, 2, 3] rfl)
      · refine lv_iconst (v := (nI 1)) hx hb dX9_hear_64 (by decide) ?_
        refine lv_goto (tgt := 69) hx hb dX9_hear_65 (by decide) ?_
        exact L69 true (by unfold hrG; first | (rw [c53]; rfl) | (rw [← hp45_0, decide_eq_true (Int32.not_lt.mp c61), Bool.or_true])) _ _ _ hSep hS (lv_sub hl [0, 1, 2, 3] rfl)
  refine lv_aload_n hx hb dX9_hear_17 rfl (lv_at hl 1 rfl) ?_
  refine va_get (D := G.1) (ci := 7) (v := .int (bI gn)) (C := RX9) (T := TX9) (N := 4) hx hb hts in_X9 hown hK (hSep.cel (k := 0) rfl) 0 rfl rfl 2 (by decide) (hts _ q532) (fun _ h9 => h9) rfl dX9_hear_18 ?_
  refine b_if_eq (tgt := 31) hx hb dX9_hear_21 (by decide) (fun c21 => ?_) (fun c21 => ?_)
  · refine lv_iload_n hx hb dX9_hear_31 rfl (lv_at hl 0 rfl) ?_
    refine n_if_le (tgt := 39) hx hb (by omega) dX9_hear_32 (by decide) (fun c32 => ?_) (fun c32 => ?_)
    · refine lv_aload_n hx hb dX9_hear_39 rfl (lv_at hl 1 rfl) ?_
      refine va_get (D := G.1) (ci := 7) (v := .int bo) (C := RX9) (T := TX9) (N := 4) hx hb hts in_X9 hown hK (hSep.cel (k := 0) rfl) 0 rfl rfl 1 (by decide) (hts _ q530) (fun _ h9 => h9) rfl dX9_hear_40 ?_
      refine lv_iconst (v := (nI 1)) hx hb dX9_hear_43 (by decide) ?_
      refine lv_iadd hx hb dX9_hear_44 ?_
      exact L45 (bo + (nI 1)) (by unfold hrB; rw [if_neg (by rw [c21]; decide), if_pos (by omega)]) _ _ _ hSep hS (lv_sub hl [0, 1, 2, 3] rfl)
    · refine lv_iconst (v := (nI 0)) hx hb dX9_hear_35 (by decide) ?_
      refine lv_goto (tgt := 45) hx hb dX9_hear_36 (by decide) ?_
      exact L45 (nI 0) (by unfold hrB; rw [if_neg (by rw [c21]; decide), if_neg (by omega)]) _ _ _ hSep hS (lv_sub hl [0, 1, 2, 3] rfl)
  · refine lv_aload_n hx hb dX9_hear_24 rfl (lv_at hl 1 rfl) ?_
    refine va_get (D := G.1) (ci := 7) (v := .int bo) (C := RX9) (T := TX9) (N := 4) hx hb hts in_X9 hown hK (hSep.cel (k := 0) rfl) 0 rfl rfl 1 (by decide) (hts _ q530) (fun _ h9 => h9) rfl dX9_hear_25 ?_
    refine lv_goto (tgt := 45) hx hb dX9_hear_28 (by decide) ?_
    exact L45 bo (by unfold hrB; rw [if_pos c21]) _ _ _ hSep hS (lv_sub hl [0, 1, 2, 3] rfl)
