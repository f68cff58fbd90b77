set_option maxRecDepth 100000
set_option maxHeartbeats 600000 in
set_option maxRecDepth 100000 in
theorem m_X4_tellOn (l : Launch) (G : EVT) (F : Nat → Prop) (sz : Nat) (mo : Nat) (fR : Int32) (aT : Nat) (zs : Nat) (aN : Nat) (aL : Nat) (aP : Nat) (aD : Nat) (ac : Nat) (aK : Nat) (aZ : Nat) (aG : Nat) (aB : Nat) (bl : Nat) (bp : Int32) (aS : Nat) (tl : Nat) (a : Nat) (f : Nat → Int32) (g : GS) (fS : Nat → Int32) (s1 : List Nat) (he : Enc f g) (ho : gOk g) (hs : Pre fS s1) (htl : tl = s1.length) (h5 : s1.length ≤ 5) (hsw : ∀ w ∈ s1, w < 18) : Met l yX4_tellOn (ws_ yX4_tellOn cX4_tellOn 5 (some .int)) ({ frames := 3, cells := 0, slots := 0, locals := 69 } : Room) (SPc G F sz [.ref mo, .ref a] [pts mo (.inr (3, [.int fR, .ref aT, .int (nI zs), .ref aN, .ref aL, .ref aP, .ref aD, .int (nI ac), .ref aK, .ref aZ, .ref aG, .ref aB, .int (nI bl), .int bp, .ref aS, .int (nI tl)])), pts aS (.inl (G.2.1 0, 5, .inl fS)), pts a (.inl (G.2.1 0, 89, .inl f))] (fun _ => True)) (SQi G F sz (fun (r : Int32) (u : (Nat → Int32)) => r = (nI (gPts g s1 3)) ∧ Enc u (gTell g s1)) (fun (u : (Nat → Int32)) => [pts mo (.inr (3, [.int fR, .ref aT, .int (nI zs), .ref aN, .ref aL, .ref aP, .ref aD, .int (nI ac), .ref aK, .ref aZ, .ref aG, .ref aB, .int (nI bl), .int bp, .ref aS, .int (nI tl)])), pts aS (.inl (G.2.1 0, 5, .inl fS)), pts a (.inl (G.2.1 0, 89, .inl u))])) (0) (0) (Fz F sz) := by
  refine sp_of RX4 (by decide) rfl (Nat.le_of_ble_eq_true rfl) ?_
  intro p e s m args below meth c ls QQ hx hb hr hts hown hlocks hml hnm hsz hSep hΦ hE hS hl hQ
  subst hsz
  have hK := hE.1
  have hl : lv_has ls 5 [(0, .ref mo), (1, .ref a)] := hl
  subst htl
  have hgt := gTurn_lt g
  have hlB := hlB_logs ho s1 (gTurn g)
  have hlL := hlL_logs ho s1 h5 (gTurn g)
  refine lv_iconst (v := (nI 0)) hx hb dX4_tellOn_0 (by decide) ?_
  refine lv_istore_n (lv' := [(2, .int (nI 0)), (0, .ref mo), (1, .ref a)]) hx hb dX4_tellOn_1 rfl hl (by decide) rfl (fun ls hl => ?_)
  refine lv_iconst (v := (nI 0)) hx hb dX4_tellOn_2 (by decide) ?_
  refine lv_istore_n (lv' := [(3, .int (nI 0)), (2, .int (nI 0)), (0, .ref mo), (1, .ref a)]) hx hb dX4_tellOn_3 rfl hl (by decide) rfl (fun ls hl => ?_)
  have L4 : ∀ (fu : Nat) (j : Nat) (y : Nat) (f2 : Nat → Int32) , 3 - j < fu → (j ≤ 3) → (y = gPts g s1 j) → (Enc f2 (gLis g s1 j)) → ∀ (H : Heap) (locs : List Loc) (ls : Array Slot), Sep G.1 clA (Fz F s.heap.size) [pts mo (.inr (3, [.int fR, .ref aT, .int (nI zs), .ref aN, .ref aL, .ref aP, .ref aD, .int (nI ac), .ref aK, .ref aZ, .ref aG, .ref aB, .int (nI bl), .int bp, .ref aS, .int (nI s1.length)])), pts aS (.inl (G.2.1 0, 5, .inl fS)), pts a (.inl (G.2.1 0, 89, .inl f2))] H → va_S (Fz F s.heap.size) s.heap H locs → lv_has ls 5 [(3, .int (nI j)), (2, .int (nI y)), (0, .ref mo), (1, .ref a)] → W p l e ({ frames := 3, cells := 0, slots := 0, locals := 69 } : Room) s m args below meth c H locs (0) (0) QQ (F0 m 4 ls []) := by
    intro fu
    induction fu with
    | zero => intro j y f2 hm; exact absurd hm (Nat.not_lt_zero _)
    | succ fu ih4 =>
      intro j y f2 hm4 hp4_0 hp4_1 hp4_2 H locs ls hSep hS hl
      refine lv_iload_n hx hb dX4_tellOn_4 rfl (lv_at hl 0 rfl) ?_
      refine lv_iconst (v := (nI 3)) hx hb dX4_tellOn_5 (by decide) ?_
      refine n_icmp_ge (tgt := 99) hx hb (by omega) (by omega) dX4_tellOn_6 (by decide) (fun c6 => ?_) (fun c6 => ?_)
      · obtain rfl : j = 3 := by omega
        obtain ⟨f1, hf1, hSep⟩ : ∃ f1 : Nat → Int32, (Enc f1 (gLis g s1 3)) ∧ Sep G.1 clA (Fz F s.heap.size) [pts mo (.inr (3, [.int fR, .ref aT, .int (nI zs), .ref aN, .ref aL, .ref aP, .ref aD, .int (nI ac), .ref aK, .ref aZ, .ref aG, .ref aB, .int (nI bl), .int bp, .ref aS, .int (nI s1.length)])), pts aS (.inl (G.2.1 0, 5, .inl fS)), pts a (.inl (G.2.1 0, 89, .inl f1))] H := ⟨f2, hp4_2, hSep⟩
        refine lv_bipush (v := (nI 35)) hx hb dX4_tellOn_99 (by decide) ?_
        refine lv_istore_n (lv' := [(3, .int (nI 35)), (2, .int (nI y)), (0, .ref mo), (1, .ref a)]) hx hb dX4_tellOn_101 rfl hl (by decide) rfl (fun ls hl => ?_)
        have L102 : ∀ (fu : Nat) (k : Nat) (f3 : Nat → Int32) , k < fu → (5 ≤ k) → (k ≤ 35) → (∀ i, 53 + k < i → i < 89 → f3 i = f1 (i - 6)) → (∀ i, i ≤ 53 + k → f3 i = f1 i) → ∀ (H : Heap) (locs : List Loc) (ls : Array Slot), Sep G.1 clA (Fz F s.heap.size) [pts mo (.inr (3, [.int fR, .ref aT, .int (nI zs), .ref aN, .ref aL, .ref aP, .ref aD, .int (nI ac), .ref aK, .ref aZ, .ref aG, .ref aB, .int (nI bl), .int bp, .ref aS, .int (nI s1.length)])), pts aS (.inl (G.2.1 0, 5, .inl fS)), pts a (.inl (G.2.1 0, 89, .inl f3))] H → va_S (Fz F s.heap.size) s.heap H locs → lv_has ls 5 [(3, .int (nI k)), (2, .int (nI y)), (0, .ref mo), (1, .ref a)] → W p l e ({ frames := 3, cells := 0, slots := 0, locals := 69 } : Room) s m args below meth c H locs (0) (0) QQ (F0 m 102 ls []) := by
          intro fu
          induction fu with
          | zero => intro k f3 hm; exact absurd hm (Nat.not_lt_zero _)
          | succ fu ih102 =>
            intro k f3 hm102 hp102_0 hp102_1 hp102_2 hp102_3 H locs ls hSep hS hl
            refine lv_iload_n hx hb dX4_tellOn_102 rfl (lv_at hl 0 rfl) ?_
            refine lv_bipush (v := (nI 6)) hx hb dX4_tellOn_103 (by decide) ?_
            refine n_icmp_lt (tgt := 129) hx hb (by omega) (by omega) dX4_tellOn_105 (by decide) (fun c105 => ?_) (fun c105 => ?_)
            · obtain rfl : k = 5 := by omega
              refine lv_aload_n hx hb dX4_tellOn_129 rfl (lv_at hl 3 rfl) ?_
              refine lv_iconst (v := (nI 1)) hx hb dX4_tellOn_130 (by decide) ?_
              refine n_iald (i := 1) hx hb hK (hSep.cel (k := 2) rfl) 0 rfl (by omega) (by omega) dX4_tellOn_131 ?_
              refine n_eq (y := (nI (gTurn g))) ((hp102_3 1 (by omega)).trans ((hf1.num (by decide)).trans ((gLis_n 3 (by omega) (by omega)).trans (gTurn_eq ho)))) ?_
              have hFk_1 : ∀ q, Fz (fun _ => False) H.size q → (Fz F s.heap.size) q := fun q h => by rcases h with h | h; exact h.elim; exact Fz.new (Nat.le_trans hS.1 h)
              have hPk_1 : Sep G.1 clA (Fz (fun _ => False) H.size) [] H := sp_nil
              have hJk_1 := sp_nilJ (F := (fun _ => False)) hSep (fun _ => id) hFk_1
              refine c_i (va_runS (As := [.int (nI (gTurn g))]) (rest := []) ⟨hx, hb, hml, hown, hts⟩ (m_X4_at l G H.size (gTurn g) ) (va_cwS 1 hts (lw_S q1584 q1585 q44 q1586) rfl rfl rfl (by decide +kernel) ⟨Nat.le_of_ble_eq_true rfl, Nat.le_of_ble_eq_true rfl⟩) (sp_preS hE hS hFk_1 hPk_1 trivial) rfl rfl hl.1 rfl (lv_room (Nat.le_of_ble_eq_true rfl)) dX4_tellOn_132 ⟨by first | exact Nat.le_of_ble_eq_true rfl | omega | (dsimp only; omega), by first | exact Nat.le_of_ble_eq_true rfl | omega | (dsimp only; omega)⟩) hS hFk_1 hJk_1 (fun r_2 u_3 H locs hpk_1 hSep hS hzk_1 => ?_)
              obtain rfl : r_2 = (nI (23 + 15 * (gTurn g))) := hpk_1
              refine W.cs (cells' := 0) (slots' := 0) rfl rfl ?_
              have hSep : Sep G.1 clA (Fz F s.heap.size) [pts mo (.inr (3, [.int fR, .ref aT, .int (nI zs), .ref aN, .ref aL, .ref aP, .ref aD, .int (nI ac), .ref aK, .ref aZ, .ref aG, .ref aB, .int (nI bl), .int bp, .ref aS, .int (nI s1.length)])), pts aS (.inl (G.2.1 0, 5, .inl fS)), pts a (.inl (G.2.1 0, 89, .inl f3))] H := hSep
              refine lv_istore_n (lv' := [(3, .int (nI (23 + 15 * (gTurn g)))), (2, .int (nI y)), (0, .ref mo), (1, .ref a)]) hx hb dX4_tellOn_135 rfl hl (by decide) rfl (fun ls hl => ?_)
              refine lv_aload_n hx hb dX4_tellOn_136 rfl (lv_at hl 3 rfl) ?_
              refine lv_bipush (v := (nI 53)) hx hb dX4_tellOn_137 (by decide) ?_
              refine lv_aload_n hx hb dX4_tellOn_139 rfl (lv_at hl 2 rfl) ?_
              refine va_get (D := G.1) (ci := 3) (v := .int (nI s1.length)) (C := RX4) (T := TX4) (N := 16) hx hb hts in_X4 hown hK (hSep.cel (k := 0) rfl) 0 rfl rfl 15 (by decide) (hts _ q1488) (fun _ h9 => h9) rfl dX4_tellOn_140 ?_
              refine n_iast (i := 53) (x := (nI s1.length)) (y := (nI s1.length)) hx hb hK hSep hS 2 rfl 0 rfl (by omega) (by omega) (rfl) dX4_tellOn_143 (fun H locs hSep hS => ?_)
              have hSep : Sep G.1 clA (Fz F s.heap.size) [pts mo (.inr (3, [.int fR, .ref aT, .int (nI zs), .ref aN, .ref aL, .ref aP, .ref aD, .int (nI ac), .ref aK, .ref aZ, .ref aG, .ref aB, .int (nI bl), .int bp, .ref aS, .int (nI s1.length)])), pts aS (.inl (G.2.1 0, 5, .inl fS)), pts a (.inl (G.2.1 0, 89, .inl (upd f3 53 (nI s1.length))))] H := hSep
              refine lv_aload_n hx hb dX4_tellOn_144 rfl (lv_at hl 3 rfl) ?_
              refine lv_iload_n hx hb dX4_tellOn_145 rfl (lv_at hl 0 rfl) ?_
              refine lv_bipush (v := (nI 9)) hx hb dX4_tellOn_146 (by decide) ?_
              refine n_iadd hx hb dX4_tellOn_148 ?_
              refine lv_aload_n hx hb dX4_tellOn_149 rfl (lv_at hl 2 rfl) ?_
              refine va_get (D := G.1) (ci := 3) (v := .int (nI s1.length)) (C := RX4) (T := TX4) (N := 16) hx hb hts in_X4 hown hK (hSep.cel (k := 0) rfl) 0 rfl rfl 15 (by decide) (hts _ q1488) (fun _ h9 => h9) rfl dX4_tellOn_150 ?_
              refine n_iast (i := (23 + 15 * (gTurn g)) + 9) (x := (nI s1.length)) (y := (nI s1.length)) hx hb hK hSep hS 2 rfl 0 rfl (by omega) (by omega) (rfl) dX4_tellOn_153 (fun H locs hSep hS => ?_)
              have hSep : Sep G.1 clA (Fz F s.heap.size) [pts mo (.inr (3, [.int fR, .ref aT, .int (nI zs), .ref aN, .ref aL, .ref aP, .ref aD, .int (nI ac), .ref aK, .ref aZ, .ref aG, .ref aB, .int (nI bl), .int bp, .ref aS, .int (nI s1.length)])), pts aS (.inl (G.2.1 0, 5, .inl fS)), pts a (.inl (G.2.1 0, 89, .inl (upd (upd f3 53 (nI s1.length)) ((23 + 15 * (gTurn g)) + 9) (nI s1.length))))] H := hSep
              refine lv_iconst (v := (nI 0)) hx hb dX4_tellOn_154 (by decide) ?_
              refine lv_istore (lv' := [(4, .int (nI 0)), (3, .int (nI (23 + 15 * (gTurn g)))), (2, .int (nI y)), (0, .ref mo), (1, .ref a)]) hx hb dX4_tellOn_155 hl (by decide) rfl (fun ls hl => ?_)
              have L157 : ∀ (fu : Nat) (k : Nat) (f4 : Nat → Int32) , s1.length - k < fu → (k ≤ s1.length) → (∀ i, i < 53 → (i < 32 + 15 * gTurn g ∨ 38 + 15 * gTurn g ≤ i) → f4 i = f1 i) → (∀ i, 59 ≤ i → i < 89 → f4 i = f1 (i - 6)) → (f4 53 = nI s1.length) → (f4 (32 + 15 * gTurn g) = nI s1.length) → (∀ j, j < k → f4 (54 + j) = nI (s1.getD j 0)) → (∀ j, j < k → f4 (33 + 15 * gTurn g + j) = nI (s1.getD j 0)) → ∀ (H : Heap) (locs : List Loc) (ls : Array Slot), Sep G.1 clA (Fz F s.heap.size) [pts mo (.inr (3, [.int fR, .ref aT, .int (nI zs), .ref aN, .ref aL, .ref aP, .ref aD, .int (nI ac), .ref aK, .ref aZ, .ref aG, .ref aB, .int (nI bl), .int bp, .ref aS, .int (nI s1.length)])), pts aS (.inl (G.2.1 0, 5, .inl fS)), pts a (.inl (G.2.1 0, 89, .inl f4))] H → va_S (Fz F s.heap.size) s.heap H locs → lv_has ls 5 [(4, .int (nI k)), (3, .int (nI (23 + 15 * (gTurn g)))), (2, .int (nI y)), (0, .ref mo), (1, .ref a)] → W p l e ({ frames := 3, cells := 0, slots := 0, locals := 69 } : Room) s m args below meth c H locs (0) (0) QQ (F0 m 157 ls []) := by
                intro fu
                induction fu with
                | zero => intro k f4 hm; exact absurd hm (Nat.not_lt_zero _)
                | succ fu ih157 =>
                  intro k f4 hm157 hp157_0 hp157_1 hp157_2 hp157_3 hp157_4 hp157_5 hp157_6 H locs ls hSep hS hl
                  refine lv_iload hx hb dX4_tellOn_157 (lv_at hl 0 rfl) ?_
                  refine lv_aload_n hx hb dX4_tellOn_159 rfl (lv_at hl 3 rfl) ?_
                  refine va_get (D := G.1) (ci := 3) (v := .int (nI s1.length)) (C := RX4) (T := TX4) (N := 16) hx hb hts in_X4 hown hK (hSep.cel (k := 0) rfl) 0 rfl rfl 15 (by decide) (hts _ q1488) (fun _ h9 => h9) rfl dX4_tellOn_160 ?_
                  refine n_icmp_ge (tgt := 202) hx hb (by omega) (by omega) dX4_tellOn_163 (by decide) (fun c163 => ?_) (fun c163 => ?_)
                  · obtain rfl : k = s1.length := by omega
                    obtain ⟨f9, hf9, hSep⟩ : ∃ f9 : Nat → Int32, (Enc f9 (gLogs (gLis g s1 3) (gTurn g) s1)) ∧ Sep G.1 clA (Fz F s.heap.size) [pts mo (.inr (3, [.int fR, .ref aT, .int (nI zs), .ref aN, .ref aL, .ref aP, .ref aD, .int (nI ac), .ref aK, .ref aZ, .ref aG, .ref aB, .int (nI bl), .int bp, .ref aS, .int (nI s1.length)])), pts aS (.inl (G.2.1 0, 5, .inl fS)), pts a (.inl (G.2.1 0, 89, .inl f9))] H := ⟨f4, Enc.logs hf1 hgt h5 (fun j => (gLog_ok (gOk_lis ho s1 3 (by omega)) j).1) (fun t h => Nat.le_succ_of_le (gB_ok (gOk_lis ho s1 3 (by omega)) h).1) (fun t h => (gL_ok (gOk_lis ho s1 3 (by omega)) h).1) hp157_1 hp157_2 hp157_3 hp157_4 hp157_5 hp157_6, hSep⟩
                    refine lv_aload_n hx hb dX4_tellOn_202 rfl (lv_at hl 4 rfl) ?_
                    refine lv_iload_n hx hb dX4_tellOn_203 rfl (lv_at hl 1 rfl) ?_
                    refine lv_iconst (v := (nI 0)) hx hb dX4_tellOn_204 (by decide) ?_
                    refine n_iadd hx hb dX4_tellOn_205 ?_
                    refine lv_dup2_11 hx hb dX4_tellOn_206 rfl rfl ?_
                    refine n_iald (i := (23 + 15 * (gTurn g)) + 0) hx hb hK (hSep.cel (k := 2) rfl) 0 rfl (by omega) (by omega) dX4_tellOn_207 ?_
                    refine n_eq (y := ((gLogs (gLis g s1 3) (gTurn g) s1).1 (23 + 15 * gTurn g))) (hf9.sc hgt (by omega)) ?_
                    refine lv_iload_n hx hb dX4_tellOn_208 rfl (lv_at hl 2 rfl) ?_
                    refine lv_iadd hx hb dX4_tellOn_209 ?_
                    refine n_iast (i := (23 + 15 * (gTurn g)) + 0) (x := (((gLogs (gLis g s1 3) (gTurn g) s1).1 (23 + 15 * gTurn g)) + (nI y))) (y := (((gLogs (gLis g s1 3) (gTurn g) s1).1 (23 + 15 * gTurn g)) + (nI y))) hx hb hK hSep hS 2 rfl 0 rfl (by omega) (by omega) (rfl) dX4_tellOn_210 (fun H locs hSep hS => ?_)
                    have hSep : Sep G.1 clA (Fz F s.heap.size) [pts mo (.inr (3, [.int fR, .ref aT, .int (nI zs), .ref aN, .ref aL, .ref aP, .ref aD, .int (nI ac), .ref aK, .ref aZ, .ref aG, .ref aB, .int (nI bl), .int bp, .ref aS, .int (nI s1.length)])), pts aS (.inl (G.2.1 0, 5, .inl fS)), pts a (.inl (G.2.1 0, 89, .inl (upd f9 ((23 + 15 * (gTurn g)) + 0) (((gLogs (gLis g s1 3) (gTurn g) s1).1 (23 + 15 * gTurn g)) + (nI y)))))] H := hSep
                    obtain ⟨f10, hf10, hSep⟩ : ∃ f10 : Nat → Int32, (Enc f10 (gset (gLogs (gLis g s1 3) (gTurn g) s1) (23 + 15 * gTurn g) ((gLogs (gLis g s1 3) (gTurn g) s1).1 (23 + 15 * gTurn g) + nI (gPts g s1 3)))) ∧ Sep G.1 clA (Fz F s.heap.size) [pts mo (.inr (3, [.int fR, .ref aT, .int (nI zs), .ref aN, .ref aL, .ref aP, .ref aD, .int (nI ac), .ref aK, .ref aZ, .ref aG, .ref aB, .int (nI bl), .int bp, .ref aS, .int (nI s1.length)])), pts aS (.inl (G.2.1 0, 5, .inl fS)), pts a (.inl (G.2.1 0, 89, .inl f10))] H := ⟨upd f9 ((23 + 15 * (gTurn g)) + 0) (((gLogs (gLis g s1 3) (gTurn g) s1).1 (23 + 15 * gTurn g)) + (nI y)), by rw [← hp4_1, show 23 + 15 * gTurn g + 0 = 23 + 15 * gTurn g by omega]; exact hf9.sett _ hgt (Or.inl rfl) hlB hlL, hSep⟩
                    refine lv_aload_n hx hb dX4_tellOn_211 rfl (lv_at hl 4 rfl) ?_
                    refine lv_iload_n hx hb dX4_tellOn_212 rfl (lv_at hl 1 rfl) ?_
                    refine lv_iconst (v := (nI 1)) hx hb dX4_tellOn_213 (by decide) ?_
                    refine n_iadd hx hb dX4_tellOn_214 ?_
                    refine lv_dup2_11 hx hb dX4_tellOn_215 rfl rfl ?_
                    refine n_iald (i := (23 + 15 * (gTurn g)) + 1) hx hb hK (hSep.cel (k := 2) rfl) 0 rfl (by omega) (by omega) dX4_tellOn_216 ?_
                    refine n_eq (y := ((gLogs (gLis g s1 3) (gTurn g) s1).1 (24 + 15 * gTurn g))) ((hf10.own hgt (by omega)).trans (gset_n (by omega))) ?_
                    refine lv_iconst (v := (nI 1)) hx hb dX4_tellOn_217 (by decide) ?_
                    refine lv_iadd hx hb dX4_tellOn_218 ?_
                    refine n_iast (i := (23 + 15 * (gTurn g)) + 1) (x := (((gLogs (gLis g s1 3) (gTurn g) s1).1 (24 + 15 * gTurn g)) + (nI 1))) (y := (((gLogs (gLis g s1 3) (gTurn g) s1).1 (24 + 15 * gTurn g)) + (nI 1))) hx hb hK hSep hS 2 rfl 0 rfl (by omega) (by omega) (rfl) dX4_tellOn_219 (fun H locs hSep hS => ?_)
                    have hSep : Sep G.1 clA (Fz F s.heap.size) [pts mo (.inr (3, [.int fR, .ref aT, .int (nI zs), .ref aN, .ref aL, .ref aP, .ref aD, .int (nI ac), .ref aK, .ref aZ, .ref aG, .ref aB, .int (nI bl), .int bp, .ref aS, .int (nI s1.length)])), pts aS (.inl (G.2.1 0, 5, .inl fS)), pts a (.inl (G.2.1 0, 89, .inl (upd f10 ((23 + 15 * (gTurn g)) + 1) (((gLogs (gLis g s1 3) (gTurn g) s1).1 (24 + 15 * gTurn g)) + (nI 1)))))] H := hSep
                    obtain ⟨f11, hf11, hSep⟩ : ∃ f11 : Nat → Int32, (Enc f11 (gset (gset (gLogs (gLis g s1 3) (gTurn g) s1) (23 + 15 * gTurn g) ((gLogs (gLis g s1 3) (gTurn g) s1).1 (23 + 15 * gTurn g) + nI (gPts g s1 3))) (24 + 15 * gTurn g) ((gLogs (gLis g s1 3) (gTurn g) s1).1 (24 + 15 * gTurn g) + nI 1))) ∧ Sep G.1 clA (Fz F s.heap.size) [pts mo (.inr (3, [.int fR, .ref aT, .int (nI zs), .ref aN, .ref aL, .ref aP, .ref aD, .int (nI ac), .ref aK, .ref aZ, .ref aG, .ref aB, .int (nI bl), .int bp, .ref aS, .int (nI s1.length)])), pts aS (.inl (G.2.1 0, 5, .inl fS)), pts a (.inl (G.2.1 0, 89, .inl f11))] H := ⟨upd f10 ((23 + 15 * (gTurn g)) + 1) (((gLogs (gLis g s1 3) (gTurn g) s1).1 (24 + 15 * gTurn g)) + (nI 1)), by rw [show 23 + 15 * gTurn g + 1 = 24 + 15 * gTurn g by omega]; exact hf10.sett _ hgt (Or.inr rfl) hlB hlL, hSep⟩
                    refine lv_aload_n hx hb dX4_tellOn_220 rfl (lv_at hl 4 rfl) ?_
                    refine lv_iconst (v := (nI 4)) hx hb dX4_tellOn_221 (by decide) ?_
                    refine lv_dup2_11 hx hb dX4_tellOn_222 rfl rfl ?_
                    refine n_iald (i := 4) hx hb hK (hSep.cel (k := 2) rfl) 0 rfl (by omega) (by omega) dX4_tellOn_223 ?_
                    refine n_eq (y := ((gLogs (gLis g s1 3) (gTurn g) s1).1 4)) ((hf11.num (by omega)).trans ((gset_n (by omega)).trans (gset_n (by omega)))) ?_
                    refine lv_iconst (v := (nI 1)) hx hb dX4_tellOn_224 (by decide) ?_
                    refine lv_iadd hx hb dX4_tellOn_225 ?_
                    refine n_iast (i := 4) (x := (((gLogs (gLis g s1 3) (gTurn g) s1).1 4) + (nI 1))) (y := (((gLogs (gLis g s1 3) (gTurn g) s1).1 4) + (nI 1))) hx hb hK hSep hS 2 rfl 0 rfl (by omega) (by omega) (rfl) dX4_tellOn_226 (fun H locs hSep hS => ?_)
                    have hSep : Sep G.1 clA (Fz F s.heap.size) [pts mo (.inr (3, [.int fR, .ref aT, .int (nI zs), .ref aN, .ref aL, .ref aP, .ref aD, .int (nI ac), .ref aK, .ref aZ, .ref aG, .ref aB, .int (nI bl), .int bp, .ref aS, .int (nI s1.length)])), pts aS (.inl (G.2.1 0, 5, .inl fS)), pts a (.inl (G.2.1 0, 89, .inl (upd f11 4 (((gLogs (gLis g s1 3) (gTurn g) s1).1 4) + (nI 1)))))] H := hSep
                    refine lv_aload_n hx hb dX4_tellOn_227 rfl (lv_at hl 4 rfl) ?_
                    refine lv_iconst (v := (nI 2)) hx hb dX4_tellOn_228 (by decide) ?_
                    refine lv_iconst (v := (nI 1)) hx hb dX4_tellOn_229 (by decide) ?_
                    refine n_iast (i := 2) (x := (nI 1)) (y := (nI 1)) hx hb hK hSep hS 2 rfl 0 rfl (by omega) (by omega) (rfl) dX4_tellOn_230 (fun H locs hSep hS => ?_)
                    have hSep : Sep G.1 clA (Fz F s.heap.size) [pts mo (.inr (3, [.int fR, .ref aT, .int (nI zs), .ref aN, .ref aL, .ref aP, .ref aD, .int (nI ac), .ref aK, .ref aZ, .ref aG, .ref aB, .int (nI bl), .int bp, .ref aS, .int (nI s1.length)])), pts aS (.inl (G.2.1 0, 5, .inl fS)), pts a (.inl (G.2.1 0, 89, .inl (upd (upd f11 4 (((gLogs (gLis g s1 3) (gTurn g) s1).1 4) + (nI 1))) 2 (nI 1))))] H := hSep
                    refine lv_iload_n hx hb dX4_tellOn_231 rfl (lv_at hl 2 rfl) ?_
                    rw [hQ]
                    exact r_i (r := (nI y)) (u := upd (upd f11 4 ((gLogs (gLis g s1 3) (gTurn g) s1).1 4 + nI 1)) 2 (nI 1)) hx hb hr (⟨by rw [hp4_1], (hf11.setn _ (by decide)).setn _ (by decide)⟩) hSep hS (by first | exact Nat.le_of_ble_eq_true rfl | omega | (dsimp only; omega)) (by first | exact Nat.le_of_ble_eq_true rfl | omega | (dsimp only; omega)) dX4_tellOn_232 hlocks
                  · refine lv_aload_n hx hb dX4_tellOn_166 rfl (lv_at hl 4 rfl) ?_
                    refine lv_bipush (v := (nI 54)) hx hb dX4_tellOn_167 (by decide) ?_
                    refine lv_iload hx hb dX4_tellOn_169 (lv_at hl 0 rfl) ?_
                    refine n_iadd hx hb dX4_tellOn_171 ?_
                    refine lv_aload_n hx hb dX4_tellOn_172 rfl (lv_at hl 3 rfl) ?_
                    refine va_get (D := G.1) (ci := 3) (v := .ref aS) (C := RX4) (T := TX4) (N := 16) hx hb hts in_X4 hown hK (hSep.cel (k := 0) rfl) 0 rfl rfl 14 (by decide) (hts _ q1487) (fun _ h9 => h9) rfl dX4_tellOn_173 ?_
                    refine lv_iload hx hb dX4_tellOn_176 (lv_at hl 0 rfl) ?_
                    refine n_iald (i := k) hx hb hK (hSep.cel (k := 1) rfl) 0 rfl (by omega) (by omega) dX4_tellOn_178 ?_
                    refine n_eq (y := (nI (s1.getD k 0))) (hs k (by omega)) ?_
                    refine n_iast (i := 54 + k) (x := (nI (s1.getD k 0))) (y := (nI (s1.getD k 0))) hx hb hK hSep hS 2 rfl 0 rfl (by omega) (by omega) (rfl) dX4_tellOn_179 (fun H locs hSep hS => ?_)
                    have hSep : Sep G.1 clA (Fz F s.heap.size) [pts mo (.inr (3, [.int fR, .ref aT, .int (nI zs), .ref aN, .ref aL, .ref aP, .ref aD, .int (nI ac), .ref aK, .ref aZ, .ref aG, .ref aB, .int (nI bl), .int bp, .ref aS, .int (nI s1.length)])), pts aS (.inl (G.2.1 0, 5, .inl fS)), pts a (.inl (G.2.1 0, 89, .inl (upd f4 (54 + k) (nI (s1.getD k 0)))))] H := hSep
                    refine lv_aload_n hx hb dX4_tellOn_180 rfl (lv_at hl 4 rfl) ?_
                    refine lv_iload_n hx hb dX4_tellOn_181 rfl (lv_at hl 1 rfl) ?_
                    refine lv_bipush (v := (nI 10)) hx hb dX4_tellOn_182 (by decide) ?_
                    refine n_iadd hx hb dX4_tellOn_184 ?_
                    refine lv_iload hx hb dX4_tellOn_185 (lv_at hl 0 rfl) ?_
                    refine n_iadd hx hb dX4_tellOn_187 ?_
                    refine lv_aload_n hx hb dX4_tellOn_188 rfl (lv_at hl 3 rfl) ?_
                    refine va_get (D := G.1) (ci := 3) (v := .ref aS) (C := RX4) (T := TX4) (N := 16) hx hb hts in_X4 hown hK (hSep.cel (k := 0) rfl) 0 rfl rfl 14 (by decide) (hts _ q1487) (fun _ h9 => h9) rfl dX4_tellOn_189 ?_
                    refine lv_iload hx hb dX4_tellOn_192 (lv_at hl 0 rfl) ?_
                    refine n_iald (i := k) hx hb hK (hSep.cel (k := 1) rfl) 0 rfl (by omega) (by omega) dX4_tellOn_194 ?_
                    refine n_eq (y := (nI (s1.getD k 0))) (hs k (by omega)) ?_
                    refine n_iast (i := ((23 + 15 * (gTurn g)) + 10) + k) (x := (nI (s1.getD k 0))) (y := (nI (s1.getD k 0))) hx hb hK hSep hS 2 rfl 0 rfl (by omega) (by omega) (rfl) dX4_tellOn_195 (fun H locs hSep hS => ?_)
                    have hSep : Sep G.1 clA (Fz F s.heap.size) [pts mo (.inr (3, [.int fR, .ref aT, .int (nI zs), .ref aN, .ref aL, .ref aP, .ref aD, .int (nI ac), .ref aK, .ref aZ, .ref aG, .ref aB, .int (nI bl), .int bp, .ref aS, .int (nI s1.length)])), pts aS (.inl (G.2.1 0, 5, .inl fS)), pts a (.inl (G.2.1 0, 89, .inl (upd (upd f4 (54 + k) (nI (s1.getD k 0))) (((23 + 15 * (gTurn g)) + 10) + k) (nI (s1.getD k 0)))))] H := hSep
                    refine lv_iinc (v := (nI (k + 1))) (lv' := [(4, .int (nI (k + 1))), (3, .int (nI (23 + 15 * (gTurn g)))), (2, .int (nI y)), (0, .ref mo), (1, .ref a)]) hx hb dX4_tellOn_196 hl (k := 0) rfl (nI_inc k 1) (by decide) rfl (fun ls hl => ?_)
                    refine lv_goto (tgt := 157) hx hb dX4_tellOn_199 (by decide) ?_
                    exact ih157 (k + 1) (upd (upd f4 (54 + k) (nI (s1.getD k 0))) (((23 + 15 * (gTurn g)) + 10) + k) (nI (s1.getD k 0))) (by omega) (by omega) (fun i h1 h2 => by rw [upd_n (by omega), upd_n (by omega)]; exact hp157_1 i h1 h2) (fun i h1 h2 => by rw [upd_n (by omega), upd_n (by omega)]; exact hp157_2 i h1 h2) (by rw [upd_n (by omega), upd_n (by omega)]; exact hp157_3) (by rw [upd_n (by omega), upd_n (by omega)]; exact hp157_4) (fun j h => by rw [upd_n (by omega)]; by_cases e9 : j = k; rw [e9, upd_s rfl]; rw [upd_n (by omega)]; exact hp157_5 j (by omega)) (fun j h => by by_cases e9 : j = k; rw [e9, upd_s (by omega)]; rw [upd_n (by omega), upd_n (by omega)]; exact hp157_6 j (by omega)) _ _ _ hSep hS (lv_sub hl [0, 1, 2, 3, 4] rfl)
              exact L157 (s1.length - 0 + 1) 0 (upd (upd f3 53 (nI s1.length)) ((23 + 15 * (gTurn g)) + 9) (nI s1.length)) (Nat.lt_succ_self _) (Nat.zero_le _) (fun i h1 h2 => by rw [upd_n (by omega), upd_n (by omega)]; exact hp102_3 i (by omega)) (fun i h1 h2 => by rw [upd_n (by omega), upd_n (by omega)]; exact hp102_2 i (by omega) h2) (by rw [upd_n (by omega), upd_s rfl]) (by rw [upd_s (by omega)]) (fun j h => absurd h (Nat.not_lt_zero _)) (fun j h => absurd h (Nat.not_lt_zero _)) _ _ _ hSep hS (lv_sub hl [0, 1, 2, 3, 4] rfl)
            · refine lv_aload_n hx hb dX4_tellOn_108 rfl (lv_at hl 3 rfl) ?_
              refine lv_bipush (v := (nI 53)) hx hb dX4_tellOn_109 (by decide) ?_
              refine lv_iload_n hx hb dX4_tellOn_111 rfl (lv_at hl 0 rfl) ?_
              refine n_iadd hx hb dX4_tellOn_112 ?_
              refine lv_aload_n hx hb dX4_tellOn_113 rfl (lv_at hl 3 rfl) ?_
              refine lv_bipush (v := (nI 53)) hx hb dX4_tellOn_114 (by decide) ?_
              refine lv_iload_n hx hb dX4_tellOn_116 rfl (lv_at hl 0 rfl) ?_
              refine n_iadd hx hb dX4_tellOn_117 ?_
              refine lv_bipush (v := (nI 6)) hx hb dX4_tellOn_118 (by decide) ?_
              refine n_isub hx hb (by omega) dX4_tellOn_120 ?_
              refine n_iald (i := (53 + k) - 6) hx hb hK (hSep.cel (k := 2) rfl) 0 rfl (by omega) (by omega) dX4_tellOn_121 ?_
              refine n_iast (i := 53 + k) (x := (f3 ((53 + k) - 6))) (y := (f3 ((53 + k) - 6))) hx hb hK hSep hS 2 rfl 0 rfl (by omega) (by omega) (rfl) dX4_tellOn_122 (fun H locs hSep hS => ?_)
              have hSep : Sep G.1 clA (Fz F s.heap.size) [pts mo (.inr (3, [.int fR, .ref aT, .int (nI zs), .ref aN, .ref aL, .ref aP, .ref aD, .int (nI ac), .ref aK, .ref aZ, .ref aG, .ref aB, .int (nI bl), .int bp, .ref aS, .int (nI s1.length)])), pts aS (.inl (G.2.1 0, 5, .inl fS)), pts a (.inl (G.2.1 0, 89, .inl (upd f3 (53 + k) (f3 ((53 + k) - 6)))))] H := hSep
              refine lv_iinc (v := (nI (k - 1))) (lv' := [(3, .int (nI (k - 1))), (2, .int (nI y)), (0, .ref mo), (1, .ref a)]) hx hb dX4_tellOn_123 hl (k := 0) rfl (nI_dec (by omega)) (by decide) rfl (fun ls hl => ?_)
              refine lv_goto (tgt := 102) hx hb dX4_tellOn_126 (by decide) ?_
              exact ih102 (k - 1) (upd f3 (53 + k) (f3 ((53 + k) - 6))) (by omega) (by omega) (by omega) (fun i h1 h2 => by unfold upd; split; rename_i e9; rw [e9, hp102_3 _ (by omega)]; exact hp102_2 i (by omega) h2) (fun i h1 => by rw [upd_n (by omega)]; exact hp102_3 i (by omega)) _ _ _ hSep hS (lv_sub hl [0, 1, 2, 3] rfl)
        exact L102 (35 + 1) 35 f1 (Nat.lt_succ_self _) (by decide) (by decide) (fun i h1 h2 => by omega) (fun i h => rfl) _ _ _ hSep hS (lv_sub hl [0, 1, 2, 3] rfl)
      · refine lv_aload_n hx hb dX4_tellOn_9 rfl (lv_at hl 3 rfl) ?_
        refine lv_iload_n hx hb dX4_tellOn_10 rfl (lv_at hl 0 rfl) ?_
        have hFk_4 : ∀ q, Fz (fun _ => False) H.size q → (Fz F s.heap.size) q := fun q h => by rcases h with h | h; exact h.elim; exact Fz.new (Nat.le_trans hS.1 h)
        have hPk_4 : Sep G.1 clA (Fz (fun _ => False) H.size) [] H := sp_nil
        have hJk_4 := sp_nilJ (F := (fun _ => False)) hSep (fun _ => id) hFk_4
        refine c_i (va_runS (As := [.ref a, .int (nI j)]) (rest := []) ⟨hx, hb, hml, hown, hts⟩ (m_X4_isThere l G H.size a f2 (gLis g s1 j) j (hp4_2) (by omega)) (va_cwS 2 hts (lw_S q1641 q1642 q44 q1643) rfl rfl rfl (by decide +kernel) ⟨Nat.le_of_ble_eq_true rfl, Nat.le_of_ble_eq_true rfl⟩) (sp_preS hE hS hFk_4 hPk_4 (hSep.cel (k := 2) rfl)) rfl rfl hl.1 rfl (lv_room (Nat.le_of_ble_eq_true rfl)) dX4_tellOn_11 ⟨by first | exact Nat.le_of_ble_eq_true rfl | omega | (dsimp only; omega), by first | exact Nat.le_of_ble_eq_true rfl | omega | (dsimp only; omega)⟩) hS hFk_4 hJk_4 (fun r_5 u_6 H locs hpk_4 hSep hS hzk_4 => ?_)
        obtain rfl : r_5 = (bI (gThere (gLis g s1 j) j)) := hpk_4
        refine W.cs (cells' := 0) (slots' := 0) rfl rfl ?_
        have hSep : Sep G.1 clA (Fz F s.heap.size) [pts mo (.inr (3, [.int fR, .ref aT, .int (nI zs), .ref aN, .ref aL, .ref aP, .ref aD, .int (nI ac), .ref aK, .ref aZ, .ref aG, .ref aB, .int (nI bl), .int bp, .ref aS, .int (nI s1.length)])), pts aS (.inl (G.2.1 0, 5, .inl fS)), pts a (.inl (G.2.1 0, 89, .inl f2))] H := hSep
        refine n_eq (y := (bI (gThere g j))) (by rw [gLis_there (by omega)]) ?_
        refine b_if_eq (tgt := 93) hx hb dX4_tellOn_14 (by decide) (fun c14 => ?_) (fun c14 => ?_)
        · refine lv_iinc (v := (nI (j + 1))) (lv' := [(3, .int (nI (j + 1))), (2, .int (nI y)), (0, .ref mo), (1, .ref a)]) hx hb dX4_tellOn_93 hl (k := 0) rfl (nI_inc j 1) (by decide) rfl (fun ls hl => ?_)
          refine lv_goto (tgt := 4) hx hb dX4_tellOn_96 (by decide) ?_
          exact ih4 (j + 1) y f2 (by omega) (by omega) (by first | (rw [hp4_1]; simp [gPts, show gThere g j = true from c14]) | (rw [hp4_1]; simp [gPts, show gThere g j = false from c14])) (by first | (rw [gLis, gLis1, gLis_there (by omega), if_neg (by rw [show gThere g j = false from c14]; decide)]; exact hp4_2) | (rw [gLis, gLis1, gLis_there (by omega), if_pos (show gThere g j = true from c14), ← hp92_0]; exact hf7.setn _ (by omega))) _ _ _ hSep hS (lv_sub hl [0, 1, 2, 3] rfl)
        · refine lv_aload_n hx hb dX4_tellOn_17 rfl (lv_at hl 2 rfl) ?_
          refine lv_aload_n hx hb dX4_tellOn_18 rfl (lv_at hl 3 rfl) ?_
          refine lv_iload_n hx hb dX4_tellOn_19 rfl (lv_at hl 0 rfl) ?_
          have hFk_7 : ∀ q, Fz (fun _ => False) H.size q → (Fz F s.heap.size) q := fun q h => by rcases h with h | h; exact h.elim; exact Fz.new (Nat.le_trans hS.1 h)
          have hPk_7 : Sep G.1 clA (Fz (fun _ => False) H.size) [] H := sp_nil
          have hJk_7 := sp_nilJ (F := (fun _ => False)) hSep (fun _ => id) hFk_7
          refine c_i (va_runV (As := [.ref a, .int (nI j)]) (rest := []) ⟨hx, hb, hml, hown, hts⟩ (m_X4_hear l G H.size mo fR aT zs aN aL aP aD ac aK aZ aG aB bl bp aS s1.length a f2 (gLis g s1 j) j fS s1 (hp4_2) (gOk_lis ho s1 j (by omega)) (by omega) (hs) (rfl) (h5) (hsw)) (cwV 2 hts (lw_V q1644 q1646 qs28 q44 q1647) rfl rfl rfl (by decide +kernel) ⟨Nat.le_of_ble_eq_true rfl, Nat.le_of_ble_eq_true rfl⟩) (sp_preV hE hS hFk_7 hPk_7 (va_P.app (hSep.cel (k := 0) rfl) (va_P.app (hSep.cel (k := 1) rfl) (hSep.cel (k := 2) rfl))) (sp_recv (ci := 3) hK (hSep.cel (k := 0) rfl) rfl)) rfl rfl hl.1 rfl (lv_room (Nat.le_of_ble_eq_true rfl)) dX4_tellOn_20 ⟨by first | exact Nat.le_of_ble_eq_true rfl | omega | (dsimp only; omega), by first | exact Nat.le_of_ble_eq_true rfl | omega | (dsimp only; omega)⟩) hS hFk_7 hJk_7 (fun r_8 u_9 H locs hpk_7 hSep hS hzk_7 => ?_)
          obtain rfl : r_8 = (nI (hearN (gLis g s1 j) j s1)) := hpk_7
          refine W.cs (cells' := 0) (slots' := 0) rfl rfl ?_
          have hSep : Sep G.1 clA (Fz F s.heap.size) [pts mo (.inr (3, [.int fR, .ref aT, .int (nI zs), .ref aN, .ref aL, .ref aP, .ref aD, .int (nI ac), .ref aK, .ref aZ, .ref aG, .ref aB, .int (nI bl), .int bp, .ref aS, .int (nI s1.length)])), pts aS (.inl (G.2.1 0, 5, .inl fS)), pts a (.inl (G.2.1 0, 89, .inl f2))] H := hSep
          refine n_eq (y := (nI (hearN g j s1))) (by rw [hearN_same (gLis_n j (by omega) (by omega)) (gLis_n j (by omega) (by omega)) (gLis_2 j)]) ?_
          refine lv_istore (lv' := [(4, .int (nI (hearN g j s1))), (3, .int (nI j)), (2, .int (nI y)), (0, .ref mo), (1, .ref a)]) hx hb dX4_tellOn_23 hl (by decide) rfl (fun ls hl => ?_)
          refine lv_iload_n hx hb dX4_tellOn_25 rfl (lv_at hl 2 rfl) ?_
          refine lv_iload hx hb dX4_tellOn_26 (lv_at hl 0 rfl) ?_
          refine n_iadd hx hb dX4_tellOn_28 ?_
          refine lv_istore_n (lv' := [(2, .int (nI (y + (hearN g j s1)))), (4, .int (nI (hearN g j s1))), (3, .int (nI j)), (0, .ref mo), (1, .ref a)]) hx hb dX4_tellOn_29 rfl hl (by decide) rfl (fun ls hl => ?_)
          refine lv_aload_n hx hb dX4_tellOn_30 rfl (lv_at hl 4 rfl) ?_
          refine lv_bipush (v := (nI 20)) hx hb dX4_tellOn_31 (by decide) ?_
          refine lv_iload_n hx hb dX4_tellOn_33 rfl (lv_at hl 2 rfl) ?_
          refine n_iadd hx hb dX4_tellOn_34 ?_
          have hhl := hearN_le g j s1
          refine lv_dup2_11 hx hb dX4_tellOn_35 rfl rfl ?_
          refine n_iald (i := 20 + j) hx hb hK (hSep.cel (k := 2) rfl) 0 rfl (by omega) (by omega) dX4_tellOn_36 ?_
          refine n_eq (y := ((gLis g s1 j).1 (20 + j))) (hp4_2.num (by omega)) ?_
          refine lv_iload hx hb dX4_tellOn_37 (lv_at hl 1 rfl) ?_
          refine lv_iadd hx hb dX4_tellOn_39 ?_
          refine n_iast (i := 20 + j) (x := (((gLis g s1 j).1 (20 + j)) + (nI (hearN g j s1)))) (y := (((gLis g s1 j).1 (20 + j)) + (nI (hearN g j s1)))) hx hb hK hSep hS 2 rfl 0 rfl (by omega) (by omega) (rfl) dX4_tellOn_40 (fun H locs hSep hS => ?_)
          have hSep : Sep G.1 clA (Fz F s.heap.size) [pts mo (.inr (3, [.int fR, .ref aT, .int (nI zs), .ref aN, .ref aL, .ref aP, .ref aD, .int (nI ac), .ref aK, .ref aZ, .ref aG, .ref aB, .int (nI bl), .int bp, .ref aS, .int (nI s1.length)])), pts aS (.inl (G.2.1 0, 5, .inl fS)), pts a (.inl (G.2.1 0, 89, .inl (upd f2 (20 + j) (((gLis g s1 j).1 (20 + j)) + (nI (hearN g j s1))))))] H := hSep
          obtain ⟨f6, hf6, hSep⟩ : ∃ f6 : Nat → Int32, (Enc f6 (gset (gLis g s1 j) (20 + j) ((gLis g s1 j).1 (20 + j) + nI (hearN g j s1)))) ∧ Sep G.1 clA (Fz F s.heap.size) [pts mo (.inr (3, [.int fR, .ref aT, .int (nI zs), .ref aN, .ref aL, .ref aP, .ref aD, .int (nI ac), .ref aK, .ref aZ, .ref aG, .ref aB, .int (nI bl), .int bp, .ref aS, .int (nI s1.length)])), pts aS (.inl (G.2.1 0, 5, .inl fS)), pts a (.inl (G.2.1 0, 89, .inl f6))] H := ⟨upd f2 (20 + j) (((gLis g s1 j).1 (20 + j)) + (nI (hearN g j s1))), hp4_2.setn _ (by omega), hSep⟩
          refine lv_aload_n hx hb dX4_tellOn_41 rfl (lv_at hl 4 rfl) ?_
          refine lv_bipush (v := (nI 14)) hx hb dX4_tellOn_42 (by decide) ?_
          refine lv_iload_n hx hb dX4_tellOn_44 rfl (lv_at hl 2 rfl) ?_
          refine n_iadd hx hb dX4_tellOn_45 ?_
          have L63 : ∀ (x : Int32) , (x = if hearN g j s1 = 0 then (gLis g s1 j).1 (14 + j) + nI 1 else nI 0) → ∀ (H : Heap) (locs : List Loc) (ls : Array Slot), Sep G.1 clA (Fz F s.heap.size) [pts mo (.inr (3, [.int fR, .ref aT, .int (nI zs), .ref aN, .ref aL, .ref aP, .ref aD, .int (nI ac), .ref aK, .ref aZ, .ref aG, .ref aB, .int (nI bl), .int bp, .ref aS, .int (nI s1.length)])), pts aS (.inl (G.2.1 0, 5, .inl fS)), pts a (.inl (G.2.1 0, 89, .inl f6))] H → va_S (Fz F s.heap.size) s.heap H locs → lv_has ls 5 [(2, .int (nI (y + (hearN g j s1)))), (4, .int (nI (hearN g j s1))), (3, .int (nI j)), (0, .ref mo), (1, .ref a)] → W p l e ({ frames := 3, cells := 0, slots := 0, locals := 69 } : Room) s m args below meth c H locs (0) (0) QQ (F0 m 63 ls [.int x, .int (nI (14 + j)), .ref a]) := by
            intro x hp63_0 H locs ls hSep hS hl
            refine n_iast (i := 14 + j) (x := x) (y := x) hx hb hK hSep hS 2 rfl 0 rfl (by omega) (by omega) (rfl) dX4_tellOn_63 (fun H locs hSep hS => ?_)
            have hSep : Sep G.1 clA (Fz F s.heap.size) [pts mo (.inr (3, [.int fR, .ref aT, .int (nI zs), .ref aN, .ref aL, .ref aP, .ref aD, .int (nI ac), .ref aK, .ref aZ, .ref aG, .ref aB, .int (nI bl), .int bp, .ref aS, .int (nI s1.length)])), pts aS (.inl (G.2.1 0, 5, .inl fS)), pts a (.inl (G.2.1 0, 89, .inl (upd f6 (14 + j) x)))] H := hSep
            obtain ⟨f7, hf7, hSep⟩ : ∃ f7 : Nat → Int32, (Enc f7 (gset (gset (gLis g s1 j) (20 + j) ((gLis g s1 j).1 (20 + j) + nI (hearN g j s1))) (14 + j) (if hearN g j s1 = 0 then (gLis g s1 j).1 (14 + j) + nI 1 else nI 0))) ∧ Sep G.1 clA (Fz F s.heap.size) [pts mo (.inr (3, [.int fR, .ref aT, .int (nI zs), .ref aN, .ref aL, .ref aP, .ref aD, .int (nI ac), .ref aK, .ref aZ, .ref aG, .ref aB, .int (nI bl), .int bp, .ref aS, .int (nI s1.length)])), pts aS (.inl (G.2.1 0, 5, .inl fS)), pts a (.inl (G.2.1 0, 89, .inl f7))] H := ⟨upd f6 (14 + j) x, by rw [hp63_0]; exact hf6.setn _ (by omega), hSep⟩
            refine lv_aload_n hx hb dX4_tellOn_64 rfl (lv_at hl 4 rfl) ?_
            refine lv_bipush (v := (nI 17)) hx hb dX4_tellOn_65 (by decide) ?_
            refine lv_iload_n hx hb dX4_tellOn_67 rfl (lv_at hl 2 rfl) ?_
            refine n_iadd hx hb dX4_tellOn_68 ?_
            have L92 : ∀ (x2 : Int32) , (x2 = if hearN g j s1 = 0 ∧ (gLis g s1 j).1 8 ≤ (gLis g s1 j).1 (14 + j) + nI 1 then nI 0 else nI 1) → ∀ (H : Heap) (locs : List Loc) (ls : Array Slot), Sep G.1 clA (Fz F s.heap.size) [pts mo (.inr (3, [.int fR, .ref aT, .int (nI zs), .ref aN, .ref aL, .ref aP, .ref aD, .int (nI ac), .ref aK, .ref aZ, .ref aG, .ref aB, .int (nI bl), .int bp, .ref aS, .int (nI s1.length)])), pts aS (.inl (G.2.1 0, 5, .inl fS)), pts a (.inl (G.2.1 0, 89, .inl f7))] H → va_S (Fz F s.heap.size) s.heap H locs → lv_has ls 5 [(2, .int (nI (y + (hearN g j s1)))), (4, .int (nI (hearN g j s1))), (3, .int (nI j)), (0, .ref mo), (1, .ref a)] → W p l e ({ frames := 3, cells := 0, slots := 0, locals := 69 } : Room) s m args below meth c H locs (0) (0) QQ (F0 m 92 ls [.int x2, .int (nI (17 + j)), .ref a]) := by
              intro x2 hp92_0 H locs ls hSep hS hl
              refine n_iast (i := 17 + j) (x := x2) (y := x2) hx hb hK hSep hS 2 rfl 0 rfl (by omega) (by omega) (rfl) dX4_tellOn_92 (fun H locs hSep hS => ?_)
              have hSep : Sep G.1 clA (Fz F s.heap.size) [pts mo (.inr (3, [.int fR, .ref aT, .int (nI zs), .ref aN, .ref aL, .ref aP, .ref aD, .int (nI ac), .ref aK, .ref aZ, .ref aG, .ref aB, .int (nI bl), .int bp, .ref aS, .int (nI s1.length)])), pts aS (.inl (G.2.1 0, 5, .inl fS)), pts a (.inl (G.2.1 0, 89, .inl (upd f7 (17 + j) x2)))] H := hSep
              refine lv_iinc (v := (nI (j + 1))) (lv' := [(3, .int (nI (j + 1))), (2, .int (nI (y + (hearN g j s1)))), (4, .int (nI (hearN g j s1))), (0, .ref mo), (1, .ref a)]) hx hb dX4_tellOn_93 hl (k := 2) rfl (nI_inc j 1) (by decide) rfl (fun ls hl => ?_)
              refine lv_goto (tgt := 4) hx hb dX4_tellOn_96 (by decide) ?_
              exact ih4 (j + 1) (y + (hearN g j s1)) (upd f7 (17 + j) x2) (by omega) (by omega) (by first | (rw [hp4_1]; simp [gPts, show gThere g j = true from c14]) | (rw [hp4_1]; simp [gPts, show gThere g j = false from c14])) (by first | (rw [gLis, gLis1, gLis_there (by omega), if_neg (by rw [show gThere g j = false from c14]; decide)]; exact hp4_2) | (rw [gLis, gLis1, gLis_there (by omega), if_pos (show gThere g j = true from c14), ← hp92_0]; exact hf7.setn _ (by omega))) _ _ _ hSep hS (lv_sub hl [0, 1, 3, 4] rfl)
            refine lv_iload hx hb dX4_tellOn_69 (lv_at hl 1 rfl) ?_
            refine n_if_ne (tgt := 91) hx hb (by omega) dX4_tellOn_71 (by decide) (fun c71 => ?_) (fun c71 => ?_)
            · refine lv_iconst (v := (nI 1)) hx hb dX4_tellOn_91 (by decide) ?_
              exact L92 (nI 1) (by rw [if_neg]; rintro ⟨h1, h2⟩; first | exact absurd h1 c71 | exact absurd c84 (Int32.not_lt.mpr h2)) _ _ _ hSep hS (lv_sub hl [0, 1, 2, 3, 4] rfl)
            · refine lv_aload_n hx hb dX4_tellOn_74 rfl (lv_at hl 4 rfl) ?_
              refine lv_bipush (v := (nI 14)) hx hb dX4_tellOn_75 (by decide) ?_
              refine lv_iload_n hx hb dX4_tellOn_77 rfl (lv_at hl 2 rfl) ?_
              refine n_iadd hx hb dX4_tellOn_78 ?_
              refine n_iald (i := 14 + j) hx hb hK (hSep.cel (k := 2) rfl) 0 rfl (by omega) (by omega) dX4_tellOn_79 ?_
              refine n_eq (y := (if hearN g j s1 = 0 then (gLis g s1 j).1 (14 + j) + nI 1 else nI 0)) ((hf7.num (by omega)).trans gset_s) ?_
              refine lv_aload_n hx hb dX4_tellOn_80 rfl (lv_at hl 4 rfl) ?_
              refine lv_bipush (v := (nI 8)) hx hb dX4_tellOn_81 (by decide) ?_
              refine n_iald (i := 8) hx hb hK (hSep.cel (k := 2) rfl) 0 rfl (by omega) (by omega) dX4_tellOn_83 ?_
              refine n_eq (y := ((gLis g s1 j).1 8)) ((hf7.num (by omega)).trans ((gset_n (by omega)).trans (gset_n (by omega)))) ?_
              refine lv_icmp_lt (tgt := 91) hx hb dX4_tellOn_84 (by decide) (fun c84 => ?_) (fun c84 => ?_)
              · rw [if_pos (show hearN g j s1 = 0 from c71)] at c84
                refine lv_iconst (v := (nI 1)) hx hb dX4_tellOn_91 (by decide) ?_
                exact L92 (nI 1) (by rw [if_neg]; rintro ⟨h1, h2⟩; first | exact absurd h1 c71 | exact absurd c84 (Int32.not_lt.mpr h2)) _ _ _ hSep hS (lv_sub hl [0, 1, 2, 3, 4] rfl)
              · rw [if_pos (show hearN g j s1 = 0 from c71)] at c84
                refine lv_iconst (v := (nI 0)) hx hb dX4_tellOn_87 (by decide) ?_
                refine lv_goto (tgt := 92) hx hb dX4_tellOn_88 (by decide) ?_
                exact L92 (nI 0) (by rw [if_pos ⟨c71, Int32.not_lt.mp c84⟩]) _ _ _ hSep hS (lv_sub hl [0, 1, 2, 3, 4] rfl)
          refine lv_iload hx hb dX4_tellOn_46 (lv_at hl 1 rfl) ?_
          refine n_if_le (tgt := 55) hx hb (by omega) dX4_tellOn_48 (by decide) (fun c48 => ?_) (fun c48 => ?_)
          · refine lv_aload_n hx hb dX4_tellOn_55 rfl (lv_at hl 4 rfl) ?_
            refine lv_bipush (v := (nI 14)) hx hb dX4_tellOn_56 (by decide) ?_
            refine lv_iload_n hx hb dX4_tellOn_58 rfl (lv_at hl 2 rfl) ?_
            refine n_iadd hx hb dX4_tellOn_59 ?_
            refine n_iald (i := 14 + j) hx hb hK (hSep.cel (k := 2) rfl) 0 rfl (by omega) (by omega) dX4_tellOn_60 ?_
            refine n_eq (y := ((gLis g s1 j).1 (14 + j))) ((hf6.num (by omega)).trans (gset_n (by omega))) ?_
            refine lv_iconst (v := (nI 1)) hx hb dX4_tellOn_61 (by decide) ?_
            refine lv_iadd hx hb dX4_tellOn_62 ?_
            exact L63 (((gLis g s1 j).1 (14 + j)) + (nI 1)) (by rw [if_pos c48]) _ _ _ hSep hS (lv_sub hl [0, 1, 2, 3, 4] rfl)
          · refine lv_iconst (v := (nI 0)) hx hb dX4_tellOn_51 (by decide) ?_
            refine lv_goto (tgt := 63) hx hb dX4_tellOn_52 (by decide) ?_
            exact L63 (nI 0) (by rw [if_neg (by omega)]) _ _ _ hSep hS (lv_sub hl [0, 1, 2, 3, 4] rfl)
  exact L4 (3 - 0 + 1) 0 0 f (Nat.lt_succ_self _) (by omega) (rfl) (he) _ _ _ hSep hS (lv_sub hl [0, 1, 2, 3] rfl)
