set_option maxRecDepth 100000
set_option maxHeartbeats 600000 in
set_option maxRecDepth 100000 in
theorem m_J23_bitCount (l : Launch) (G : EVT) (sz : Nat) (z9 : Nat) (P : Nat → Bool) (hz9 : z9 = natS P 18) : Met l yJ23_bitCount (ws_ yJ23_bitCount cJ23_bitCount 1 (some .int)) ({ frames := 0, cells := 0, slots := 0, locals := 0 } : Room) (SPc G (fun _ => False) sz [.int (nI z9)] [] (fun _ => True)) (SQi G (fun _ => False) sz (fun (r : Int32) (u : Unit) => r = (nI (cntB P 18))) (fun (u : Unit) => [])) (0) (0) (Fz (fun _ => False) sz) := by
  refine sp_of RJ23 (by decide) rfl (Nat.le_of_ble_eq_true rfl) ?_
  intro p e s m args below meth c ls QQ hx hb hr hts hown hlocks hml hnm hsz hSep hΦ hE hS hl hQ
  subst hsz
  have hK := hE.1
  have hl : lv_has ls 1 [(0, .int (nI z9))] := hl
  subst hz9
  obtain ⟨hb1, hb2, hb3, hb4, hb5, hb6⟩ := bc_all P
  have hb0 := natS_lt P 18
  refine lv_iload_n hx hb dJ23_bitCount_0 rfl (lv_at hl 0 rfl) ?_
  refine lv_iload_n hx hb dJ23_bitCount_1 rfl (lv_at hl 0 rfl) ?_
  refine lv_iconst (v := (nI 1)) hx hb dJ23_bitCount_2 (by decide) ?_
  refine lv_iushr hx hb dJ23_bitCount_3 rfl ?_
  refine n_eq (y := (nI ((natS P 18) / 2))) (pk_ushrN (by omega) (nI 1) 1 rfl) ?_
  refine lv_ldcw (v := (nI 1431655765)) hx hb hown (hts _ q933) dJ23_bitCount_4 ?_
  refine lv_iand hx hb dJ23_bitCount_7 ?_
  refine n_eq (y := (nI (((natS P 18) / 2) &&& 1431655765))) (nI_and (by omega) (by decide)) ?_
  refine n_isub hx hb (by exact hb1) dJ23_bitCount_8 ?_
  refine n_eq (y := (nI (bcA (natS P 18)))) (rfl) ?_
  refine lv_istore_n (lv' := [(0, .int (nI (bcA (natS P 18))))]) hx hb dJ23_bitCount_9 rfl hl (by decide) rfl (fun ls hl => ?_)
  refine lv_iload_n hx hb dJ23_bitCount_10 rfl (lv_at hl 0 rfl) ?_
  refine lv_ldcw (v := (nI 858993459)) hx hb hown (hts _ q934) dJ23_bitCount_11 ?_
  refine lv_iand hx hb dJ23_bitCount_14 ?_
  refine n_eq (y := (nI (bcA (natS P 18) &&& 858993459))) (nI_and (by omega) (by decide)) ?_
  refine lv_iload_n hx hb dJ23_bitCount_15 rfl (lv_at hl 0 rfl) ?_
  refine lv_iconst (v := (nI 2)) hx hb dJ23_bitCount_16 (by decide) ?_
  refine lv_iushr hx hb dJ23_bitCount_17 rfl ?_
  refine n_eq (y := (nI (bcA (natS P 18) / 4))) (pk_ushrN (by omega) (nI 2) 2 rfl) ?_
  refine lv_ldcw (v := (nI 858993459)) hx hb hown (hts _ q934) dJ23_bitCount_18 ?_
  refine lv_iand hx hb dJ23_bitCount_21 ?_
  refine n_eq (y := (nI ((bcA (natS P 18) / 4) &&& 858993459))) (nI_and (by omega) (by decide)) ?_
  refine n_iadd hx hb dJ23_bitCount_22 ?_
  refine n_eq (y := (nI (bcB (natS P 18)))) (rfl) ?_
  refine lv_istore_n (lv' := [(0, .int (nI (bcB (natS P 18))))]) hx hb dJ23_bitCount_23 rfl hl (by decide) rfl (fun ls hl => ?_)
  refine lv_iload_n hx hb dJ23_bitCount_24 rfl (lv_at hl 0 rfl) ?_
  refine lv_iload_n hx hb dJ23_bitCount_25 rfl (lv_at hl 0 rfl) ?_
  refine lv_iconst (v := (nI 4)) hx hb dJ23_bitCount_26 (by decide) ?_
  refine lv_iushr hx hb dJ23_bitCount_27 rfl ?_
  refine n_eq (y := (nI (bcB (natS P 18) / 16))) (pk_ushrN (by omega) (nI 4) 4 rfl) ?_
  refine n_iadd hx hb dJ23_bitCount_28 ?_
  refine lv_ldcw (v := (nI 252645135)) hx hb hown (hts _ q935) dJ23_bitCount_29 ?_
  refine lv_iand hx hb dJ23_bitCount_32 ?_
  refine n_eq (y := (nI (bcC (natS P 18)))) (nI_and (by omega) (by decide)) ?_
  refine lv_istore_n (lv' := [(0, .int (nI (bcC (natS P 18))))]) hx hb dJ23_bitCount_33 rfl hl (by decide) rfl (fun ls hl => ?_)
  refine lv_iload_n hx hb dJ23_bitCount_34 rfl (lv_at hl 0 rfl) ?_
  refine lv_iload_n hx hb dJ23_bitCount_35 rfl (lv_at hl 0 rfl) ?_
  refine lv_bipush (v := (nI 8)) hx hb dJ23_bitCount_36 (by decide) ?_
  refine lv_iushr hx hb dJ23_bitCount_38 rfl ?_
  refine n_eq (y := (nI (bcC (natS P 18) / 256))) (pk_ushrN (by omega) (nI 8) 8 rfl) ?_
  refine n_iadd hx hb dJ23_bitCount_39 ?_
  refine n_eq (y := (nI (bcD (natS P 18)))) (rfl) ?_
  refine lv_istore_n (lv' := [(0, .int (nI (bcD (natS P 18))))]) hx hb dJ23_bitCount_40 rfl hl (by decide) rfl (fun ls hl => ?_)
  refine lv_iload_n hx hb dJ23_bitCount_41 rfl (lv_at hl 0 rfl) ?_
  refine lv_iload_n hx hb dJ23_bitCount_42 rfl (lv_at hl 0 rfl) ?_
  refine lv_bipush (v := (nI 16)) hx hb dJ23_bitCount_43 (by decide) ?_
  refine lv_iushr hx hb dJ23_bitCount_45 rfl ?_
  refine n_eq (y := (nI (bcD (natS P 18) / 65536))) (pk_ushrN (by omega) (nI 16) 16 rfl) ?_
  refine n_iadd hx hb dJ23_bitCount_46 ?_
  refine n_eq (y := (nI (bcE (natS P 18)))) (rfl) ?_
  refine lv_istore_n (lv' := [(0, .int (nI (bcE (natS P 18))))]) hx hb dJ23_bitCount_47 rfl hl (by decide) rfl (fun ls hl => ?_)
  refine lv_iload_n hx hb dJ23_bitCount_48 rfl (lv_at hl 0 rfl) ?_
  refine lv_bipush (v := (nI 63)) hx hb dJ23_bitCount_49 (by decide) ?_
  refine lv_iand hx hb dJ23_bitCount_51 ?_
  refine n_eq (y := (nI (cntB P 18))) (by rw [nI_and (by unfold bcE; omega) (by decide), hb2]) ?_
  rw [hQ]
  exact r_i (r := (nI (cntB P 18))) (u := ()) hx hb hr (rfl) hSep hS (by first | exact Nat.le_of_ble_eq_true rfl | omega | (dsimp only; omega)) (by first | exact Nat.le_of_ble_eq_true rfl | omega | (dsimp only; omega)) dJ23_bitCount_52 hlocks
