set_option maxRecDepth 100000
set_option maxHeartbeats 600000 in
set_option maxRecDepth 100000 in
theorem m_X4_endTurn (l : Launch) (G : EVT) (F : Nat → Prop) (sz : Nat) (a : Nat) (f : Nat → Int32) (g : GS) (ps : Bool) (he : Enc f g) (ho : gOk g) : Met l yX4_endTurn (ws_ yX4_endTurn cX4_endTurn 4 none) ({ frames := 1, cells := 0, slots := 0, locals := 21 } : Room) (SPc G F sz [.ref a, .int (bI ps)] [pts a (.inl (G.2.1 0, 89, .inl f))] (fun _ => True)) (SQv G F sz (fun (u : (Nat → Int32)) => Enc u (gEnd g ps)) (fun (u : (Nat → Int32)) => [pts a (.inl (G.2.1 0, 89, .inl u))])) (0) (0) (Fz F sz) := by
  refine sp_of RX4 (by decide) rfl (Nat.le_of_ble_eq_true rfl) ?_
  intro p e s m args below meth c ls QQ hx hb hr hts hown hlocks hml hnm hsz hSep hΦ hE hS hl hQ
  subst hsz
  have hK := hE.1
  have hl : lv_has ls 4 [(0, .ref a), (1, .int (bI ps))] := hl
  have hgt := gTurn_lt g
  have L17 : ∀ (tw : Bool) , (tw = (ps && decide (g.1 6 = nI 1))) → ∀ (H : Heap) (locs : List Loc) (ls : Array Slot), Sep G.1 clA (Fz F s.heap.size) [pts a (.inl (G.2.1 0, 89, .inl f))] H → va_S (Fz F s.heap.size) s.heap H locs → lv_has ls 4 [(0, .ref a), (1, .int (bI ps))] → W p l e ({ frames := 1, cells := 0, slots := 0, locals := 21 } : Room) s m args below meth c H locs (0) (0) QQ (F0 m 17 ls [.int (bI tw)]) := by
    intro tw hp17_0 H locs ls hSep hS hl
    refine lv_istore_n (lv' := [(2, .int (bI tw)), (0, .ref a), (1, .int (bI ps))]) hx hb dX4_endTurn_17 rfl hl (by decide) rfl (fun ls hl => ?_)
    refine lv_aload_n hx hb dX4_endTurn_18 rfl (lv_at hl 1 rfl) ?_
    refine lv_iconst (v := (nI 3)) hx hb dX4_endTurn_19 (by decide) ?_
    refine lv_dup2_11 hx hb dX4_endTurn_20 rfl rfl ?_
    refine n_iald (i := 3) hx hb hK (hSep.cel (k := 0) rfl) 0 rfl (by omega) (by omega) dX4_endTurn_21 ?_
    refine n_eq (y := (g.1 3)) (he.num (by decide)) ?_
    refine lv_iconst (v := (nI 1)) hx hb dX4_endTurn_22 (by decide) ?_
    refine lv_iadd hx hb dX4_endTurn_23 ?_
    refine n_iast (i := 3) (x := ((g.1 3) + (nI 1))) (y := ((g.1 3) + (nI 1))) hx hb hK hSep hS 0 rfl 0 rfl (by omega) (by omega) (rfl) dX4_endTurn_24 (fun H locs hSep hS => ?_)
    have hSep : Sep G.1 clA (Fz F s.heap.size) [pts a (.inl (G.2.1 0, 89, .inl (upd f 3 ((g.1 3) + (nI 1)))))] H := hSep
    refine lv_aload_n hx hb dX4_endTurn_25 rfl (lv_at hl 1 rfl) ?_
    refine lv_iconst (v := (nI 2)) hx hb dX4_endTurn_26 (by decide) ?_
    refine lv_iconst (v := (nI 0)) hx hb dX4_endTurn_27 (by decide) ?_
    refine n_iast (i := 2) (x := (nI 0)) (y := (nI 0)) hx hb hK hSep hS 0 rfl 0 rfl (by omega) (by omega) (rfl) dX4_endTurn_28 (fun H locs hSep hS => ?_)
    have hSep : Sep G.1 clA (Fz F s.heap.size) [pts a (.inl (G.2.1 0, 89, .inl (upd (upd f 3 ((g.1 3) + (nI 1))) 2 (nI 0))))] H := hSep
    have L41 : ∀ (x : Int32) , (x = bI ps) → ∀ (H : Heap) (locs : List Loc) (ls : Array Slot), Sep G.1 clA (Fz F s.heap.size) [pts a (.inl (G.2.1 0, 89, .inl (upd (upd f 3 ((g.1 3) + (nI 1))) 2 (nI 0))))] H → va_S (Fz F s.heap.size) s.heap H locs → lv_has ls 4 [(2, .int (bI tw)), (0, .ref a), (1, .int (bI ps))] → W p l e ({ frames := 1, cells := 0, slots := 0, locals := 21 } : Room) s m args below meth c H locs (0) (0) QQ (F0 m 41 ls [.int x, .int (nI 6), .ref a]) := by
      intro x hp41_0 H locs ls hSep hS hl
      refine n_iast (i := 6) (x := x) (y := x) hx hb hK hSep hS 0 rfl 0 rfl (by omega) (by omega) (rfl) dX4_endTurn_41 (fun H locs hSep hS => ?_)
      have hSep : Sep G.1 clA (Fz F s.heap.size) [pts a (.inl (G.2.1 0, 89, .inl (upd (upd (upd f 3 ((g.1 3) + (nI 1))) 2 (nI 0)) 6 x)))] H := hSep
      obtain ⟨f2, hf2, hSep⟩ : ∃ f2 : Nat → Int32, (Enc f2 (gEnd3 g ps)) ∧ Sep G.1 clA (Fz F s.heap.size) [pts a (.inl (G.2.1 0, 89, .inl f2))] H := ⟨upd (upd (upd f 3 ((g.1 3) + (nI 1))) 2 (nI 0)) 6 x, by rw [hp41_0]; exact he.end3 ps, hSep⟩
      have L71 : ∀ (em : Bool) , (em = gEmpty g) → ∀ (H : Heap) (locs : List Loc) (ls : Array Slot), Sep G.1 clA (Fz F s.heap.size) [pts a (.inl (G.2.1 0, 89, .inl f2))] H → va_S (Fz F s.heap.size) s.heap H locs → lv_has ls 4 [(2, .int (bI tw)), (0, .ref a), (1, .int (bI ps))] → W p l e ({ frames := 1, cells := 0, slots := 0, locals := 21 } : Room) s m args below meth c H locs (0) (0) QQ (F0 m 71 ls [.int (bI em)]) := by
        intro em hp71_0 H locs ls hSep hS hl
        refine lv_istore_n (lv' := [(3, .int (bI em)), (2, .int (bI tw)), (0, .ref a), (1, .int (bI ps))]) hx hb dX4_endTurn_71 rfl hl (by decide) rfl (fun ls hl => ?_)
        refine lv_aload_n hx hb dX4_endTurn_72 rfl (lv_at hl 2 rfl) ?_
        refine lv_aload_n hx hb dX4_endTurn_73 rfl (lv_at hl 2 rfl) ?_
        refine lv_iconst (v := (nI 1)) hx hb dX4_endTurn_74 (by decide) ?_
        refine n_iald (i := 1) hx hb hK (hSep.cel (k := 0) rfl) 0 rfl (by omega) (by omega) dX4_endTurn_75 ?_
        refine n_eq (y := (nI (gTurn g))) ((hf2.num (by decide)).trans ((gEnd3_n (by decide)).trans (gTurn_eq ho))) ?_
        have hFk_1 : ∀ q, Fz (fun _ => False) H.size q → (Fz F s.heap.size) q := fun q h => by rcases h with h | h; exact h.elim; exact Fz.new (Nat.le_trans hS.1 h)
        have hPk_1 : Sep G.1 clA (Fz (fun _ => False) H.size) [] H := sp_nil
        have hJk_1 := sp_nilJ (F := (fun _ => False)) hSep (fun _ => id) hFk_1
        refine c_i (va_runS (As := [.int (nI (gTurn g))]) (rest := [.ref a]) ⟨hx, hb, hml, hown, hts⟩ (m_X4_at l G H.size (gTurn g) ) (va_cwS 1 hts (lw_S q1584 q1585 q44 q1586) rfl rfl rfl (by decide +kernel) ⟨Nat.le_of_ble_eq_true rfl, Nat.le_of_ble_eq_true rfl⟩) (sp_preS hE hS hFk_1 hPk_1 trivial) rfl rfl hl.1 rfl (lv_room (Nat.le_of_ble_eq_true rfl)) dX4_endTurn_76 ⟨by first | exact Nat.le_of_ble_eq_true rfl | omega | (dsimp only; omega), by first | exact Nat.le_of_ble_eq_true rfl | omega | (dsimp only; omega)⟩) hS hFk_1 hJk_1 (fun r_2 u_3 H locs hpk_1 hSep hS hzk_1 => ?_)
        obtain rfl : r_2 = (nI (23 + 15 * (gTurn g))) := hpk_1
        refine W.cs (cells' := 0) (slots' := 0) rfl rfl ?_
        have hSep : Sep G.1 clA (Fz F s.heap.size) [pts a (.inl (G.2.1 0, 89, .inl f2))] H := hSep
        refine lv_iconst (v := (nI 0)) hx hb dX4_endTurn_79 (by decide) ?_
        refine n_iadd hx hb dX4_endTurn_80 ?_
        refine n_iald (i := (23 + 15 * (gTurn g)) + 0) hx hb hK (hSep.cel (k := 0) rfl) 0 rfl (by omega) (by omega) dX4_endTurn_81 ?_
        refine n_eq (y := (g.1 (23 + 15 * gTurn g))) ((hf2.sc hgt rfl).trans (gEnd3_n (by omega))) ?_
        refine lv_aload_n hx hb dX4_endTurn_82 rfl (lv_at hl 2 rfl) ?_
        refine lv_bipush (v := (nI 10)) hx hb dX4_endTurn_83 (by decide) ?_
        refine n_iald (i := 10) hx hb hK (hSep.cel (k := 0) rfl) 0 rfl (by omega) (by omega) dX4_endTurn_85 ?_
        refine n_eq (y := (g.1 10)) ((hf2.num (by decide)).trans (gEnd3_n (by decide))) ?_
        refine lv_icmp_ge (tgt := 105) hx hb dX4_endTurn_86 (by decide) (fun c86 => ?_) (fun c86 => ?_)
        · refine lv_aload_n hx hb dX4_endTurn_105 rfl (lv_at hl 2 rfl) ?_
          refine lv_iconst (v := (nI 5)) hx hb dX4_endTurn_106 (by decide) ?_
          refine lv_iconst (v := (nI 1)) hx hb dX4_endTurn_107 (by decide) ?_
          refine n_iast (i := 5) (x := (nI 1)) (y := (nI 1)) hx hb hK hSep hS 0 rfl 0 rfl (by omega) (by omega) (rfl) dX4_endTurn_108 (fun H locs hSep hS => ?_)
          have hSep : Sep G.1 clA (Fz F s.heap.size) [pts a (.inl (G.2.1 0, 89, .inl (upd f2 5 (nI 1))))] H := hSep
          refine lv_goto (tgt := 120) hx hb dX4_endTurn_109 (by decide) ?_
          rw [hQ]
          exact r_v (u := upd f2 5 (nI 1)) hx hb hr (by have h9 : gOver g ps = true := (by unfold gOver; first | (rw [decide_eq_true c86]; rfl) | (rw [← hp71_0, show em = true from c90]; simp) | (rw [← hp17_0, show tw = true from c94]; simp) | (rw [decide_eq_true (Int32.not_lt.mp c102)]; simp)); unfold gEnd; rw [if_pos h9]; exact hf2.setn _ (by decide)) hSep hS (by first | exact Nat.le_of_ble_eq_true rfl | omega | (dsimp only; omega)) (by first | exact Nat.le_of_ble_eq_true rfl | omega | (dsimp only; omega)) dX4_endTurn_120 hlocks
        · refine lv_iload_n hx hb dX4_endTurn_89 rfl (lv_at hl 0 rfl) ?_
          refine b_if_ne (tgt := 105) hx hb dX4_endTurn_90 (by decide) (fun c90 => ?_) (fun c90 => ?_)
          · refine lv_aload_n hx hb dX4_endTurn_105 rfl (lv_at hl 2 rfl) ?_
            refine lv_iconst (v := (nI 5)) hx hb dX4_endTurn_106 (by decide) ?_
            refine lv_iconst (v := (nI 1)) hx hb dX4_endTurn_107 (by decide) ?_
            refine n_iast (i := 5) (x := (nI 1)) (y := (nI 1)) hx hb hK hSep hS 0 rfl 0 rfl (by omega) (by omega) (rfl) dX4_endTurn_108 (fun H locs hSep hS => ?_)
            have hSep : Sep G.1 clA (Fz F s.heap.size) [pts a (.inl (G.2.1 0, 89, .inl (upd f2 5 (nI 1))))] H := hSep
            refine lv_goto (tgt := 120) hx hb dX4_endTurn_109 (by decide) ?_
            rw [hQ]
            exact r_v (u := upd f2 5 (nI 1)) hx hb hr (by have h9 : gOver g ps = true := (by unfold gOver; first | (rw [decide_eq_true c86]; rfl) | (rw [← hp71_0, show em = true from c90]; simp) | (rw [← hp17_0, show tw = true from c94]; simp) | (rw [decide_eq_true (Int32.not_lt.mp c102)]; simp)); unfold gEnd; rw [if_pos h9]; exact hf2.setn _ (by decide)) hSep hS (by first | exact Nat.le_of_ble_eq_true rfl | omega | (dsimp only; omega)) (by first | exact Nat.le_of_ble_eq_true rfl | omega | (dsimp only; omega)) dX4_endTurn_120 hlocks
          · refine lv_iload_n hx hb dX4_endTurn_93 rfl (lv_at hl 1 rfl) ?_
            refine b_if_ne (tgt := 105) hx hb dX4_endTurn_94 (by decide) (fun c94 => ?_) (fun c94 => ?_)
            · refine lv_aload_n hx hb dX4_endTurn_105 rfl (lv_at hl 2 rfl) ?_
              refine lv_iconst (v := (nI 5)) hx hb dX4_endTurn_106 (by decide) ?_
              refine lv_iconst (v := (nI 1)) hx hb dX4_endTurn_107 (by decide) ?_
              refine n_iast (i := 5) (x := (nI 1)) (y := (nI 1)) hx hb hK hSep hS 0 rfl 0 rfl (by omega) (by omega) (rfl) dX4_endTurn_108 (fun H locs hSep hS => ?_)
              have hSep : Sep G.1 clA (Fz F s.heap.size) [pts a (.inl (G.2.1 0, 89, .inl (upd f2 5 (nI 1))))] H := hSep
              refine lv_goto (tgt := 120) hx hb dX4_endTurn_109 (by decide) ?_
              rw [hQ]
              exact r_v (u := upd f2 5 (nI 1)) hx hb hr (by have h9 : gOver g ps = true := (by unfold gOver; first | (rw [decide_eq_true c86]; rfl) | (rw [← hp71_0, show em = true from c90]; simp) | (rw [← hp17_0, show tw = true from c94]; simp) | (rw [decide_eq_true (Int32.not_lt.mp c102)]; simp)); unfold gEnd; rw [if_pos h9]; exact hf2.setn _ (by decide)) hSep hS (by first | exact Nat.le_of_ble_eq_true rfl | omega | (dsimp only; omega)) (by first | exact Nat.le_of_ble_eq_true rfl | omega | (dsimp only; omega)) dX4_endTurn_120 hlocks
            · refine lv_aload_n hx hb dX4_endTurn_97 rfl (lv_at hl 2 rfl) ?_
              refine lv_iconst (v := (nI 3)) hx hb dX4_endTurn_98 (by decide) ?_
              refine n_iald (i := 3) hx hb hK (hSep.cel (k := 0) rfl) 0 rfl (by omega) (by omega) dX4_endTurn_99 ?_
              refine n_eq (y := (g.1 3 + nI 1)) ((hf2.num (by decide)).trans gEnd3_3) ?_
              refine lv_bipush (v := (nI 60)) hx hb dX4_endTurn_100 (by decide) ?_
              refine lv_icmp_lt (tgt := 112) hx hb dX4_endTurn_102 (by decide) (fun c102 => ?_) (fun c102 => ?_)
              · refine lv_aload_n hx hb dX4_endTurn_112 rfl (lv_at hl 2 rfl) ?_
                refine lv_iconst (v := (nI 1)) hx hb dX4_endTurn_113 (by decide) ?_
                refine lv_iconst (v := (nI 1)) hx hb dX4_endTurn_114 (by decide) ?_
                refine lv_aload_n hx hb dX4_endTurn_115 rfl (lv_at hl 2 rfl) ?_
                refine lv_iconst (v := (nI 1)) hx hb dX4_endTurn_116 (by decide) ?_
                refine n_iald (i := 1) hx hb hK (hSep.cel (k := 0) rfl) 0 rfl (by omega) (by omega) dX4_endTurn_117 ?_
                refine n_eq (y := (nI (gTurn g))) ((hf2.num (by decide)).trans ((gEnd3_n (by decide)).trans (gTurn_eq ho))) ?_
                refine n_isub hx hb (by omega) dX4_endTurn_118 ?_
                refine n_iast (i := 1) (x := (nI (1 - (gTurn g)))) (y := (nI (1 - (gTurn g)))) hx hb hK hSep hS 0 rfl 0 rfl (by omega) (by omega) (rfl) dX4_endTurn_119 (fun H locs hSep hS => ?_)
                have hSep : Sep G.1 clA (Fz F s.heap.size) [pts a (.inl (G.2.1 0, 89, .inl (upd f2 1 (nI (1 - (gTurn g))))))] H := hSep
                rw [hQ]
                exact r_v (u := upd f2 1 (nI (1 - (gTurn g)))) hx hb hr (by have h9 : gOver g ps = false := (by unfold gOver; rw [decide_eq_false c86, ← hp71_0, c90, ← hp17_0, c94, decide_eq_false (Int32.not_le.mpr c102)]; rfl); unfold gEnd; rw [h9]; exact hf2.setn _ (by decide)) hSep hS (by first | exact Nat.le_of_ble_eq_true rfl | omega | (dsimp only; omega)) (by first | exact Nat.le_of_ble_eq_true rfl | omega | (dsimp only; omega)) dX4_endTurn_120 hlocks
              · refine lv_aload_n hx hb dX4_endTurn_105 rfl (lv_at hl 2 rfl) ?_
                refine lv_iconst (v := (nI 5)) hx hb dX4_endTurn_106 (by decide) ?_
                refine lv_iconst (v := (nI 1)) hx hb dX4_endTurn_107 (by decide) ?_
                refine n_iast (i := 5) (x := (nI 1)) (y := (nI 1)) hx hb hK hSep hS 0 rfl 0 rfl (by omega) (by omega) (rfl) dX4_endTurn_108 (fun H locs hSep hS => ?_)
                have hSep : Sep G.1 clA (Fz F s.heap.size) [pts a (.inl (G.2.1 0, 89, .inl (upd f2 5 (nI 1))))] H := hSep
                refine lv_goto (tgt := 120) hx hb dX4_endTurn_109 (by decide) ?_
                rw [hQ]
                exact r_v (u := upd f2 5 (nI 1)) hx hb hr (by have h9 : gOver g ps = true := (by unfold gOver; first | (rw [decide_eq_true c86]; rfl) | (rw [← hp71_0, show em = true from c90]; simp) | (rw [← hp17_0, show tw = true from c94]; simp) | (rw [decide_eq_true (Int32.not_lt.mp c102)]; simp)); unfold gEnd; rw [if_pos h9]; exact hf2.setn _ (by decide)) hSep hS (by first | exact Nat.le_of_ble_eq_true rfl | omega | (dsimp only; omega)) (by first | exact Nat.le_of_ble_eq_true rfl | omega | (dsimp only; omega)) dX4_endTurn_120 hlocks
      refine lv_aload_n hx hb dX4_endTurn_42 rfl (lv_at hl 1 rfl) ?_
      refine lv_iconst (v := (nI 0)) hx hb dX4_endTurn_43 (by decide) ?_
      have hFk_4 : ∀ q, Fz (fun _ => False) H.size q → (Fz F s.heap.size) q := fun q h => by rcases h with h | h; exact h.elim; exact Fz.new (Nat.le_trans hS.1 h)
      have hPk_4 : Sep G.1 clA (Fz (fun _ => False) H.size) [] H := sp_nil
      have hJk_4 := sp_nilJ (F := (fun _ => False)) hSep (fun _ => id) hFk_4
      refine c_i (va_runS (As := [.ref a, .int (nI 0)]) (rest := []) ⟨hx, hb, hml, hown, hts⟩ (m_X4_isThere l G H.size a f2 (gEnd3 g ps) 0 (hf2) (by first | assumption | omega)) (va_cwS 2 hts (lw_S q1641 q1642 q44 q1643) rfl rfl rfl (by decide +kernel) ⟨Nat.le_of_ble_eq_true rfl, Nat.le_of_ble_eq_true rfl⟩) (sp_preS hE hS hFk_4 hPk_4 (hSep.cel (k := 0) rfl)) rfl rfl hl.1 rfl (lv_room (Nat.le_of_ble_eq_true rfl)) dX4_endTurn_44 ⟨by first | exact Nat.le_of_ble_eq_true rfl | omega | (dsimp only; omega), by first | exact Nat.le_of_ble_eq_true rfl | omega | (dsimp only; omega)⟩) hS hFk_4 hJk_4 (fun r_5 u_6 H locs hpk_4 hSep hS hzk_4 => ?_)
      obtain rfl : r_5 = (bI (gThere (gEnd3 g ps) 0)) := hpk_4
      refine W.cs (cells' := 0) (slots' := 0) rfl rfl ?_
      have hSep : Sep G.1 clA (Fz F s.heap.size) [pts a (.inl (G.2.1 0, 89, .inl f2))] H := hSep
      refine b_if_ne (tgt := 70) hx hb dX4_endTurn_47 (by decide) (fun c47 => ?_) (fun c47 => ?_)
      · refine lv_iconst (v := (nI 0)) hx hb dX4_endTurn_70 (by decide) ?_
        exact L71 false (by unfold gEmpty; rw [gEnd3_there] at *; first | (rw [show gThere g 0 = true from c47]; rfl) | (rw [show gThere g 1 = true from c55]; simp) | (rw [show gThere g 2 = true from c63]; simp)) _ _ _ hSep hS (lv_sub hl [0, 1, 2] rfl)
      · refine lv_aload_n hx hb dX4_endTurn_50 rfl (lv_at hl 1 rfl) ?_
        refine lv_iconst (v := (nI 1)) hx hb dX4_endTurn_51 (by decide) ?_
        have hFk_7 : ∀ q, Fz (fun _ => False) H.size q → (Fz F s.heap.size) q := fun q h => by rcases h with h | h; exact h.elim; exact Fz.new (Nat.le_trans hS.1 h)
        have hPk_7 : Sep G.1 clA (Fz (fun _ => False) H.size) [] H := sp_nil
        have hJk_7 := sp_nilJ (F := (fun _ => False)) hSep (fun _ => id) hFk_7
        refine c_i (va_runS (As := [.ref a, .int (nI 1)]) (rest := []) ⟨hx, hb, hml, hown, hts⟩ (m_X4_isThere l G H.size a f2 (gEnd3 g ps) 1 (hf2) (by first | assumption | omega)) (va_cwS 2 hts (lw_S q1641 q1642 q44 q1643) rfl rfl rfl (by decide +kernel) ⟨Nat.le_of_ble_eq_true rfl, Nat.le_of_ble_eq_true rfl⟩) (sp_preS hE hS hFk_7 hPk_7 (hSep.cel (k := 0) rfl)) rfl rfl hl.1 rfl (lv_room (Nat.le_of_ble_eq_true rfl)) dX4_endTurn_52 ⟨by first | exact Nat.le_of_ble_eq_true rfl | omega | (dsimp only; omega), by first | exact Nat.le_of_ble_eq_true rfl | omega | (dsimp only; omega)⟩) hS hFk_7 hJk_7 (fun r_8 u_9 H locs hpk_7 hSep hS hzk_7 => ?_)
        obtain rfl : r_8 = (bI (gThere (gEnd3 g ps) 1)) := hpk_7
        refine W.cs (cells' := 0) (slots' := 0) rfl rfl ?_
        have hSep : Sep G.1 clA (Fz F s.heap.size) [pts a (.inl (G.2.1 0, 89, .inl f2))] H := hSep
        refine b_if_ne (tgt := 70) hx hb dX4_endTurn_55 (by decide) (fun c55 => ?_) (fun c55 => ?_)
        · refine lv_iconst (v := (nI 0)) hx hb dX4_endTurn_70 (by decide) ?_
          exact L71 false (by unfold gEmpty; rw [gEnd3_there] at *; first | (rw [show gThere g 0 = true from c47]; rfl) | (rw [show gThere g 1 = true from c55]; simp) | (rw [show gThere g 2 = true from c63]; simp)) _ _ _ hSep hS (lv_sub hl [0, 1, 2] rfl)
        · refine lv_aload_n hx hb dX4_endTurn_58 rfl (lv_at hl 1 rfl) ?_
          refine lv_iconst (v := (nI 2)) hx hb dX4_endTurn_59 (by decide) ?_
          have hFk_10 : ∀ q, Fz (fun _ => False) H.size q → (Fz F s.heap.size) q := fun q h => by rcases h with h | h; exact h.elim; exact Fz.new (Nat.le_trans hS.1 h)
          have hPk_10 : Sep G.1 clA (Fz (fun _ => False) H.size) [] H := sp_nil
          have hJk_10 := sp_nilJ (F := (fun _ => False)) hSep (fun _ => id) hFk_10
          refine c_i (va_runS (As := [.ref a, .int (nI 2)]) (rest := []) ⟨hx, hb, hml, hown, hts⟩ (m_X4_isThere l G H.size a f2 (gEnd3 g ps) 2 (hf2) (by first | assumption | omega)) (va_cwS 2 hts (lw_S q1641 q1642 q44 q1643) rfl rfl rfl (by decide +kernel) ⟨Nat.le_of_ble_eq_true rfl, Nat.le_of_ble_eq_true rfl⟩) (sp_preS hE hS hFk_10 hPk_10 (hSep.cel (k := 0) rfl)) rfl rfl hl.1 rfl (lv_room (Nat.le_of_ble_eq_true rfl)) dX4_endTurn_60 ⟨by first | exact Nat.le_of_ble_eq_true rfl | omega | (dsimp only; omega), by first | exact Nat.le_of_ble_eq_true rfl | omega | (dsimp only; omega)⟩) hS hFk_10 hJk_10 (fun r_11 u_12 H locs hpk_10 hSep hS hzk_10 => ?_)
          obtain rfl : r_11 = (bI (gThere (gEnd3 g ps) 2)) := hpk_10
          refine W.cs (cells' := 0) (slots' := 0) rfl rfl ?_
          have hSep : Sep G.1 clA (Fz F s.heap.size) [pts a (.inl (G.2.1 0, 89, .inl f2))] H := hSep
          refine b_if_ne (tgt := 70) hx hb dX4_endTurn_63 (by decide) (fun c63 => ?_) (fun c63 => ?_)
          · refine lv_iconst (v := (nI 0)) hx hb dX4_endTurn_70 (by decide) ?_
            exact L71 false (by unfold gEmpty; rw [gEnd3_there] at *; first | (rw [show gThere g 0 = true from c47]; rfl) | (rw [show gThere g 1 = true from c55]; simp) | (rw [show gThere g 2 = true from c63]; simp)) _ _ _ hSep hS (lv_sub hl [0, 1, 2] rfl)
          · refine lv_iconst (v := (nI 1)) hx hb dX4_endTurn_66 (by decide) ?_
            refine lv_goto (tgt := 71) hx hb dX4_endTurn_67 (by decide) ?_
            exact L71 true (by unfold gEmpty; rw [gEnd3_there] at c47 c55 c63; rw [c47, c55, c63]; rfl) _ _ _ hSep hS (lv_sub hl [0, 1, 2] rfl)
    refine lv_aload_n hx hb dX4_endTurn_29 rfl (lv_at hl 1 rfl) ?_
    refine lv_bipush (v := (nI 6)) hx hb dX4_endTurn_30 (by decide) ?_
    refine lv_iload_n hx hb dX4_endTurn_32 rfl (lv_at hl 2 rfl) ?_
    refine b_if_eq (tgt := 40) hx hb dX4_endTurn_33 (by decide) (fun c33 => ?_) (fun c33 => ?_)
    · refine lv_iconst (v := (nI 0)) hx hb dX4_endTurn_40 (by decide) ?_
      exact L41 (nI 0) (by rw [c33]; rfl) _ _ _ hSep hS (lv_sub hl [0, 1, 2] rfl)
    · refine lv_iconst (v := (nI 1)) hx hb dX4_endTurn_36 (by decide) ?_
      refine lv_goto (tgt := 41) hx hb dX4_endTurn_37 (by decide) ?_
      exact L41 (nI 1) (by rw [c33]; rfl) _ _ _ hSep hS (lv_sub hl [0, 1, 2] rfl)
  refine lv_iload_n hx hb dX4_endTurn_0 rfl (lv_at hl 1 rfl) ?_
  refine b_if_eq (tgt := 16) hx hb dX4_endTurn_1 (by decide) (fun c1 => ?_) (fun c1 => ?_)
  · refine lv_iconst (v := (nI 0)) hx hb dX4_endTurn_16 (by decide) ?_
    exact L17 false (by first | (rw [c1]; rfl) | (rw [decide_eq_false c9]; simp)) _ _ _ hSep hS (lv_sub hl [0, 1] rfl)
  · refine lv_aload_n hx hb dX4_endTurn_4 rfl (lv_at hl 0 rfl) ?_
    refine lv_bipush (v := (nI 6)) hx hb dX4_endTurn_5 (by decide) ?_
    refine n_iald (i := 6) hx hb hK (hSep.cel (k := 0) rfl) 0 rfl (by omega) (by omega) dX4_endTurn_7 ?_
    refine n_eq (y := (g.1 6)) (he.num (by decide)) ?_
    refine lv_iconst (v := (nI 1)) hx hb dX4_endTurn_8 (by decide) ?_
    refine lv_icmp_ne (tgt := 16) hx hb dX4_endTurn_9 (by decide) (fun c9 => ?_) (fun c9 => ?_)
    · refine lv_iconst (v := (nI 0)) hx hb dX4_endTurn_16 (by decide) ?_
      exact L17 false (by first | (rw [c1]; rfl) | (rw [decide_eq_false c9]; simp)) _ _ _ hSep hS (lv_sub hl [0, 1] rfl)
    · refine lv_iconst (v := (nI 1)) hx hb dX4_endTurn_12 (by decide) ?_
      refine lv_goto (tgt := 17) hx hb dX4_endTurn_13 (by decide) ?_
      exact L17 true (by rw [c1, c9]; rfl) _ _ _ hSep hS (lv_sub hl [0, 1] rfl)

set_option maxHeartbeats 600000 in
set_option maxRecDepth 100000 in
theorem m_X4_next (l : Launch) (G : EVT) (sz : Nat) (a : Nat) (f : Nat → Int32) (g : GS) (he : Enc f g) : Met l yX4_next (ws_ yX4_next cX4_next 1 (some .int)) ({ frames := 0, cells := 0, slots := 0, locals := 0 } : Room) (SPc G (fun _ => False) sz [.ref a] [] (fun H => va_P G.1 clA [(a, .inl (G.2.1 0, 89, .inl f))] H)) (SQi G (fun _ => False) sz (fun (r : Int32) (u : Unit) => r = (gNextV g)) (fun (u : Unit) => [])) (0) (0) (Fz (fun _ => False) sz) := by
  refine sp_of RX4 (by decide) rfl (Nat.le_of_ble_eq_true rfl) ?_
  intro p e s m args below meth c ls QQ hx hb hr hts hown hlocks hml hnm hsz hSep hΦ hE hS hl hQ
  subst hsz
  have hK := hE.1
  have hl : lv_has ls 1 [(0, .ref a)] := hl
  refine lv_aload_n hx hb dX4_next_0 rfl (lv_at hl 0 rfl) ?_
  refine lv_iconst (v := (nI 5)) hx hb dX4_next_1 (by decide) ?_
  refine n_iald (i := 5) hx hb hK ((ro0 hΦ hS).sub [0] rfl) 0 rfl (by omega) (by omega) dX4_next_2 ?_
  refine n_eq (y := (g.1 5)) (he.num (by decide)) ?_
  refine lv_iconst (v := (nI 1)) hx hb dX4_next_3 (by decide) ?_
  refine lv_icmp_ne (tgt := 11) hx hb dX4_next_4 (by decide) (fun c4 => ?_) (fun c4 => ?_)
  · refine lv_aload_n hx hb dX4_next_11 rfl (lv_at hl 0 rfl) ?_
    refine lv_iconst (v := (nI 1)) hx hb dX4_next_12 (by decide) ?_
    refine n_iald (i := 1) hx hb hK ((ro0 hΦ hS).sub [0] rfl) 0 rfl (by omega) (by omega) dX4_next_13 ?_
    rw [hQ]
    exact r_i (r := (f 1)) (u := ()) hx hb hr (by unfold gNextV; first | exact (if_pos c4).symm | (rw [if_neg c4]; exact he.num (by decide))) hSep hS (by first | exact Nat.le_of_ble_eq_true rfl | omega | (dsimp only; omega)) (by first | exact Nat.le_of_ble_eq_true rfl | omega | (dsimp only; omega)) dX4_next_14 hlocks
  · refine lv_iconst (v := (-1)) hx hb dX4_next_7 (by decide) ?_
    refine lv_goto (tgt := 14) hx hb dX4_next_8 (by decide) ?_
    rw [hQ]
    exact r_i (r := (-1)) (u := ()) hx hb hr (by unfold gNextV; first | exact (if_pos c4).symm | (rw [if_neg c4]; exact he.num (by decide))) hSep hS (by first | exact Nat.le_of_ble_eq_true rfl | omega | (dsimp only; omega)) (by first | exact Nat.le_of_ble_eq_true rfl | omega | (dsimp only; omega)) dX4_next_14 hlocks

set_option maxHeartbeats 600000 in
set_option maxRecDepth 100000 in
theorem m_X4_hear (l : Launch) (G : EVT) (sz : Nat) (mo : Nat) (fR : Int32) (aT : Nat) (zs : Nat) (aN : Nat) (aL : Nat) (aP : Nat) (aD : Nat) (ac : Nat) (aK : Nat) (aZ : Nat) (aG : Nat) (aB : Nat) (bl : Nat) (bp : Int32) (aS : Nat) (tl : Nat) (a : Nat) (f : Nat → Int32) (g : GS) (k1 : Nat) (fS : Nat → Int32) (s1 : List Nat) (he : Enc f g) (ho : gOk g) (hk : k1 < 3) (hs : Pre fS s1) (htl : tl = s1.length) (h5 : s1.length ≤ 5) (hsw : ∀ w ∈ s1, w < 18) : Met l yX4_hear (ws_ yX4_hear cX4_hear 5 (some .int)) ({ frames := 2, cells := 0, slots := 0, locals := 45 } : Room) (SPc G (fun _ => False) sz [.ref mo, .ref a, .int (nI k1)] [] (fun H => va_P G.1 clA [(mo, .inr (3, [.int fR, .ref aT, .int (nI zs), .ref aN, .ref aL, .ref aP, .ref aD, .int (nI ac), .ref aK, .ref aZ, .ref aG, .ref aB, .int (nI bl), .int bp, .ref aS, .int (nI tl)])), (aS, .inl (G.2.1 0, 5, .inl fS)), (a, .inl (G.2.1 0, 89, .inl f))] H)) (SQi G (fun _ => False) sz (fun (r : Int32) (u : Unit) => r = (nI (hearN g k1 s1))) (fun (u : Unit) => [])) (0) (0) (Fz (fun _ => False) sz) := by
  refine sp_of RX4 (by decide) rfl (Nat.le_of_ble_eq_true rfl) ?_
  intro p e s m args below meth c ls QQ hx hb hr hts hown hlocks hml hnm hsz hSep hΦ hE hS hl hQ
  subst hsz
  have hK := hE.1
  have hl : lv_has ls 5 [(0, .ref mo), (1, .ref a), (2, .int (nI k1))] := hl
  subst htl
  refine lv_iconst (v := (nI 0)) hx hb dX4_hear_0 (by decide) ?_
  refine lv_istore_n (lv' := [(3, .int (nI 0)), (0, .ref mo), (1, .ref a), (2, .int (nI k1))]) hx hb dX4_hear_1 rfl hl (by decide) rfl (fun ls hl => ?_)
  refine lv_iconst (v := (nI 0)) hx hb dX4_hear_2 (by decide) ?_
  refine lv_istore (lv' := [(4, .int (nI 0)), (3, .int (nI 0)), (0, .ref mo), (1, .ref a), (2, .int (nI k1))]) hx hb dX4_hear_3 hl (by decide) rfl (fun ls hl => ?_)
  have L5 : ∀ (fu : Nat) (k : Nat) (y : Nat) , s1.length - k < fu → (k ≤ s1.length) → (y = hearN g k1 (s1.take k)) → ∀ (H : Heap) (locs : List Loc) (ls : Array Slot), Sep G.1 clA (Fz (fun _ => False) s.heap.size) [] H → va_S (Fz (fun _ => False) s.heap.size) s.heap H locs → lv_has ls 5 [(4, .int (nI k)), (3, .int (nI y)), (0, .ref mo), (1, .ref a), (2, .int (nI k1))] → W p l e ({ frames := 2, cells := 0, slots := 0, locals := 45 } : Room) s m args below meth c H locs (0) (0) QQ (F0 m 5 ls []) := by
    intro fu
    induction fu with
    | zero => intro k y hm; exact absurd hm (Nat.not_lt_zero _)
    | succ fu ih5 =>
      intro k y hm5 hp5_0 hp5_1 H locs ls hSep hS hl
      refine lv_iload hx hb dX4_hear_5 (lv_at hl 0 rfl) ?_
      refine lv_aload_n hx hb dX4_hear_7 rfl (lv_at hl 2 rfl) ?_
      refine va_get (D := G.1) (ci := 3) (v := .int (nI s1.length)) (C := RX4) (T := TX4) (N := 16) hx hb hts in_X4 hown hK (ro0 hΦ hS) 0 rfl rfl 15 (by decide) (hts _ q1488) (fun _ h9 => h9) rfl dX4_hear_8 ?_
      refine n_icmp_ge (tgt := 57) hx hb (by omega) (by omega) dX4_hear_11 (by decide) (fun c11 => ?_) (fun c11 => ?_)
      · obtain rfl : k = s1.length := by omega
        refine lv_iload_n hx hb dX4_hear_57 rfl (lv_at hl 1 rfl) ?_
        rw [hQ]
        exact r_i (r := (nI y)) (u := ()) hx hb hr (by rw [hp5_1, List.take_length]) hSep hS (by first | exact Nat.le_of_ble_eq_true rfl | omega | (dsimp only; omega)) (by first | exact Nat.le_of_ble_eq_true rfl | omega | (dsimp only; omega)) dX4_hear_58 hlocks
      · have L49 : ∀ (x : Nat) , (x = hearW g k1 (s1.getD k 0)) → ∀ (H : Heap) (locs : List Loc) (ls : Array Slot), Sep G.1 clA (Fz (fun _ => False) s.heap.size) [] H → va_S (Fz (fun _ => False) s.heap.size) s.heap H locs → lv_has ls 5 [(4, .int (nI k)), (3, .int (nI y)), (0, .ref mo), (1, .ref a), (2, .int (nI k1))] → W p l e ({ frames := 2, cells := 0, slots := 0, locals := 45 } : Room) s m args below meth c H locs (0) (0) QQ (F0 m 49 ls [.int (nI x), .int (nI y)]) := by
          intro x hp49_0 H locs ls hSep hS hl
          refine n_iadd hx hb dX4_hear_49 ?_
          refine lv_istore_n (lv' := [(3, .int (nI (y + x))), (4, .int (nI k)), (0, .ref mo), (1, .ref a), (2, .int (nI k1))]) hx hb dX4_hear_50 rfl hl (by decide) rfl (fun ls hl => ?_)
          refine lv_iinc (v := (nI (k + 1))) (lv' := [(4, .int (nI (k + 1))), (3, .int (nI (y + x))), (0, .ref mo), (1, .ref a), (2, .int (nI k1))]) hx hb dX4_hear_51 hl (k := 1) rfl (nI_inc k 1) (by decide) rfl (fun ls hl => ?_)
          refine lv_goto (tgt := 5) hx hb dX4_hear_54 (by decide) ?_
          exact ih5 (k + 1) (y + x) (by omega) (by omega) (by rw [hearN_s _ _ _ (by omega), hp5_1, hp49_0]) _ _ _ hSep hS (lv_sub hl [0, 1, 2, 3, 4] rfl)
        refine lv_iload_n hx hb dX4_hear_14 rfl (lv_at hl 1 rfl) ?_
        refine lv_aload_n hx hb dX4_hear_15 rfl (lv_at hl 3 rfl) ?_
        refine lv_iload_n hx hb dX4_hear_16 rfl (lv_at hl 4 rfl) ?_
        refine lv_aload_n hx hb dX4_hear_17 rfl (lv_at hl 2 rfl) ?_
        refine va_get (D := G.1) (ci := 3) (v := .ref aS) (C := RX4) (T := TX4) (N := 16) hx hb hts in_X4 hown hK (ro0 hΦ hS) 0 rfl rfl 14 (by decide) (hts _ q1487) (fun _ h9 => h9) rfl dX4_hear_18 ?_
        refine lv_iload hx hb dX4_hear_21 (lv_at hl 0 rfl) ?_
        refine n_iald (i := k) hx hb hK ((ro0 hΦ hS).sub [1] rfl) 0 rfl (by omega) (by omega) dX4_hear_23 ?_
        refine n_eq (y := (nI (s1.getD k 0))) (hs k (by omega)) ?_
        have hFk_1 : ∀ q, Fz (fun _ => False) H.size q → (Fz (fun _ => False) s.heap.size) q := fun q h => by rcases h with h | h; exact h.elim; exact Fz.new (Nat.le_trans hS.1 h)
        have hPk_1 : Sep G.1 clA (Fz (fun _ => False) H.size) [] H := sp_nil
        have hJk_1 := sp_nilJ (F := (fun _ => False)) hSep (fun _ => id) hFk_1
        refine c_i (va_runS (As := [.ref a, .int (nI k1), .int (nI (s1.getD k 0))]) (rest := [.int (nI y)]) ⟨hx, hb, hml, hown, hts⟩ (m_X4_likes l G H.size a f g k1 (s1.getD k 0) (by first | assumption | omega) (by first | assumption | omega) (by have h9 := getD_lt hsw (k := k) (by omega); omega)) (va_cwS 3 hts (lw_S q1648 q1649 q44 q1650) rfl rfl rfl (by decide +kernel) ⟨Nat.le_of_ble_eq_true rfl, Nat.le_of_ble_eq_true rfl⟩) (sp_preS hE hS hFk_1 hPk_1 ((ro0 hΦ hS).sub [2] rfl)) rfl rfl hl.1 rfl (lv_room (Nat.le_of_ble_eq_true rfl)) dX4_hear_24 ⟨by first | exact Nat.le_of_ble_eq_true rfl | omega | (dsimp only; omega), by first | exact Nat.le_of_ble_eq_true rfl | omega | (dsimp only; omega)⟩) hS hFk_1 hJk_1 (fun r_2 u_3 H locs hpk_1 hSep hS hzk_1 => ?_)
        obtain rfl : r_2 = (bI (bitI (g.1 (11 + k1)) (s1.getD k 0))) := hpk_1
        refine W.cs (cells' := 0) (slots' := 0) rfl rfl ?_
        have hSep : Sep G.1 clA (Fz (fun _ => False) s.heap.size) [] H := hSep
        refine b_if_eq (tgt := 48) hx hb dX4_hear_27 (by decide) (fun c27 => ?_) (fun c27 => ?_)
        · refine lv_iconst (v := (nI 0)) hx hb dX4_hear_48 (by decide) ?_
          exact L49 0 (by unfold hearW; rw [if_neg]; rintro ⟨h1, h2⟩; first | exact absurd (h1.symm.trans c27) (by decide) | exact h2 (of_decide_eq_true c41)) _ _ _ hSep hS (lv_sub hl [0, 1, 2, 3, 4] rfl)
        · refine lv_aload_n hx hb dX4_hear_30 rfl (lv_at hl 3 rfl) ?_
          refine lv_aload_n hx hb dX4_hear_31 rfl (lv_at hl 2 rfl) ?_
          refine va_get (D := G.1) (ci := 3) (v := .ref aS) (C := RX4) (T := TX4) (N := 16) hx hb hts in_X4 hown hK (ro0 hΦ hS) 0 rfl rfl 14 (by decide) (hts _ q1487) (fun _ h9 => h9) rfl dX4_hear_32 ?_
          refine lv_iload hx hb dX4_hear_35 (lv_at hl 0 rfl) ?_
          refine n_iald (i := k) hx hb hK ((ro0 hΦ hS).sub [1] rfl) 0 rfl (by omega) (by omega) dX4_hear_37 ?_
          refine n_eq (y := (nI (s1.getD k 0))) (hs k (by omega)) ?_
          have hFk_4 : ∀ q, Fz (fun _ => False) H.size q → (Fz (fun _ => False) s.heap.size) q := fun q h => by rcases h with h | h; exact h.elim; exact Fz.new (Nat.le_trans hS.1 h)
          have hPk_4 : Sep G.1 clA (Fz (fun _ => False) H.size) [] H := sp_nil
          have hJk_4 := sp_nilJ (F := (fun _ => False)) hSep (fun _ => id) hFk_4
          refine c_i (va_runS (As := [.ref a, .int (nI (s1.getD k 0))]) (rest := [.int (nI y)]) ⟨hx, hb, hml, hown, hts⟩ (m_X4_isRemembered l G H.size a f g (s1.getD k 0) (by first | assumption | omega) (by first | assumption | omega) (by have h9 := getD_lt hsw (k := k) (by omega); omega)) (va_cwS 2 hts (lw_S q1564 q1565 q44 q1566) rfl rfl rfl (by decide +kernel) ⟨Nat.le_of_ble_eq_true rfl, Nat.le_of_ble_eq_true rfl⟩) (sp_preS hE hS hFk_4 hPk_4 ((ro0 hΦ hS).sub [2] rfl)) rfl rfl hl.1 rfl (lv_room (Nat.le_of_ble_eq_true rfl)) dX4_hear_38 ⟨by first | exact Nat.le_of_ble_eq_true rfl | omega | (dsimp only; omega), by first | exact Nat.le_of_ble_eq_true rfl | omega | (dsimp only; omega)⟩) hS hFk_4 hJk_4 (fun r_5 u_6 H locs hpk_4 hSep hS hzk_4 => ?_)
          obtain rfl : r_5 = (bI (decide ((s1.getD k 0) ∈ gRem g))) := hpk_4
          refine W.cs (cells' := 0) (slots' := 0) rfl rfl ?_
          have hSep : Sep G.1 clA (Fz (fun _ => False) s.heap.size) [] H := hSep
          refine b_if_ne (tgt := 48) hx hb dX4_hear_41 (by decide) (fun c41 => ?_) (fun c41 => ?_)
          · refine lv_iconst (v := (nI 0)) hx hb dX4_hear_48 (by decide) ?_
            exact L49 0 (by unfold hearW; rw [if_neg]; rintro ⟨h1, h2⟩; first | exact absurd (h1.symm.trans c27) (by decide) | exact h2 (of_decide_eq_true c41)) _ _ _ hSep hS (lv_sub hl [0, 1, 2, 3, 4] rfl)
          · refine lv_iconst (v := (nI 1)) hx hb dX4_hear_44 (by decide) ?_
            refine lv_goto (tgt := 49) hx hb dX4_hear_45 (by decide) ?_
            exact L49 1 (by unfold hearW; rw [if_pos ⟨c27, of_decide_eq_false c41⟩]) _ _ _ hSep hS (lv_sub hl [0, 1, 2, 3, 4] rfl)
  exact L5 (s1.length - 0 + 1) 0 0 (Nat.lt_succ_self _) (Nat.zero_le _) (rfl) _ _ _ hSep hS (lv_sub hl [0, 1, 2, 3, 4] rfl)
