set_option maxRecDepth 100000
set_option maxHeartbeats 600000 in
set_option maxRecDepth 100000 in
theorem m_X1_tenTo (l : Launch) (G : EVT) (sz : Nat) (n1 : Nat) (hn : n1 ≤ 18) : Met l yX1_tenTo (ws_ yX1_tenTo cX1_tenTo 4 (some .long)) ({ frames := 0, cells := 0, slots := 0, locals := 0 } : Room) (SPc G (fun _ => False) sz [.int (nI n1)] [] (fun _ => True)) (SQl G (fun _ => False) sz (fun (r : Int64) (u : Unit) => r = (lN (10 ^ n1))) (fun (u : Unit) => [])) (0) (0) (Fz (fun _ => False) sz) := by
  refine sp_of RX1 (by decide) rfl (Nat.le_of_ble_eq_true rfl) ?_
  intro p e s m args below meth c ls QQ hx hb hr hts hown hlocks hml hnm hsz hSep hΦ hE hS hl hQ
  subst hsz
  have hK := hE.1
  have hl : lv_has ls 4 [(0, .int (nI n1))] := hl
  refine lv_lconst (v := 1) hx hb dX1_tenTo_0 (by decide) ?_
  refine n_eql (y := (lN (10 ^ 0))) (rfl) ?_
  refine lv_lstore_n (lv' := [(1, .long (lN (10 ^ 0))), (0, .int (nI n1))]) hx hb dX1_tenTo_1 rfl hl (by decide) rfl (fun ls hl => ?_)
  refine lv_iconst (v := (nI 0)) hx hb dX1_tenTo_2 (by decide) ?_
  refine lv_istore_n (lv' := [(3, .int (nI 0)), (1, .long (lN (10 ^ 0))), (0, .int (nI n1))]) hx hb dX1_tenTo_3 rfl hl (by decide) rfl (fun ls hl => ?_)
  have L4 : ∀ (fu : Nat) (k : Nat) , n1 - k < fu → (k ≤ n1) → ∀ (H : Heap) (locs : List Loc) (ls : Array Slot), Sep G.1 clA (Fz (fun _ => False) s.heap.size) [] H → va_S (Fz (fun _ => False) s.heap.size) s.heap H locs → lv_has ls 4 [(3, .int (nI k)), (1, .long (lN (10 ^ k))), (0, .int (nI n1))] → W p l e ({ frames := 0, cells := 0, slots := 0, locals := 0 } : Room) s m args below meth c H locs (0) (0) QQ (F0 m 4 ls []) := by
    intro fu
    induction fu with
    | zero => intro k hm; exact absurd hm (Nat.not_lt_zero _)
    | succ fu ih4 =>
      intro k hm4 hp4_0 H locs ls hSep hS hl
      refine lv_iload_n hx hb dX1_tenTo_4 rfl (lv_at hl 0 rfl) ?_
      refine lv_iload_n hx hb dX1_tenTo_5 rfl (lv_at hl 2 rfl) ?_
      refine n_icmp_ge (tgt := 21) hx hb (by omega) (by omega) dX1_tenTo_6 (by decide) (fun c6 => ?_) (fun c6 => ?_)
      · obtain rfl : n1 = k := by omega
        refine lv_lload_n hx hb dX1_tenTo_21 rfl (lv_at hl 1 rfl) ?_
        rw [hQ]
        exact r_l (r := (lN (10 ^ n1))) (u := ()) hx hb hr (rfl) hSep hS (by first | exact Nat.le_of_ble_eq_true rfl | omega | (dsimp only; omega)) (by first | exact Nat.le_of_ble_eq_true rfl | omega | (dsimp only; omega)) dX1_tenTo_22 hlocks
      · refine lv_lload_n hx hb dX1_tenTo_9 rfl (lv_at hl 1 rfl) ?_
        refine lv_ldc2 (v := 10) hx hb hown (hts _ q1392) dX1_tenTo_10 ?_
        refine lv_lmul hx hb dX1_tenTo_13 ?_
        refine n_eql (y := (lN (10 ^ (k + 1)))) (by rw [show (10 : Int64) = lN 10 from rfl, lN_mul, Nat.pow_succ]) ?_
        refine lv_lstore_n (lv' := [(1, .long (lN (10 ^ (k + 1)))), (3, .int (nI k)), (0, .int (nI n1))]) hx hb dX1_tenTo_14 rfl hl (by decide) rfl (fun ls hl => ?_)
        refine lv_iinc (v := (nI (k + 1))) (lv' := [(3, .int (nI (k + 1))), (1, .long (lN (10 ^ (k + 1)))), (0, .int (nI n1))]) hx hb dX1_tenTo_15 hl (k := 1) rfl (nI_inc k 1) (by decide) rfl (fun ls hl => ?_)
        refine lv_goto (tgt := 4) hx hb dX1_tenTo_18 (by decide) ?_
        exact ih4 (k + 1) (by omega) (by omega) _ _ _ hSep hS (lv_sub hl [0, 1, 2] rfl)
  exact L4 (n1 - 0 + 1) 0 (Nat.lt_succ_self _) (by omega) _ _ _ hSep hS (lv_sub hl [0, 1, 2] rfl)
