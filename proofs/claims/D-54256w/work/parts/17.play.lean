/-! A TURN, as a value -/
set_option maxRecDepth 100000
def gset (g : GS) (i : Nat) (x : Int32) : GS := (upd g.1 i x, g.2)
def gTurn (g : GS) : Nat := if g.1 1 = nI 1 then 1 else 0
theorem gTurn_lt (g : GS) : gTurn g < 2 := by unfold gTurn; split <;> omega
theorem gTurn_eq {g : GS} (h : gOk g) : g.1 1 = nI (gTurn g) := by
  unfold gTurn
  rcases h.2.1 with e | e
  · rw [e, if_neg (by decide)]
  · rw [e, if_pos rfl]
theorem upd_s {f : Nat → Int32} {k j : Nat} {x : Int32} (h : j = k) : upd f k x j = x := by rw [h]; exact pk_us
theorem upd_n {f : Nat → Int32} {k j : Nat} {x : Int32} (h : j ≠ k) : upd f k x j = f j := pk_un h
theorem Enc.setn {f : Nat → Int32} {g : GS} (h : Enc f g) {i : Nat} (x : Int32) (hi : i < 23) : Enc (upd f i x) (gset g i x) := by
  refine ⟨fun j hj => ?_, fun t ht => ⟨?_, ?_⟩, fun t ht => ⟨?_, fun k hk => ?_⟩, fun t ht => ⟨?_, fun k hk => ?_⟩, fun j hj => ⟨?_, fun k hk => ?_⟩⟩
  · show upd f i x j = upd g.1 i x j
    unfold upd
    rw [h.1 j hj]
  · show upd f i x _ = upd g.1 i x _
    rw [upd_n (by omega), upd_n (by omega)]
    exact (h.2.1 t ht).1
  · show upd f i x _ = upd g.1 i x _
    rw [upd_n (by omega), upd_n (by omega)]
    exact (h.2.1 t ht).2
  · rw [upd_n (by omega)]; exact (h.2.2.1 t ht).1
  · rw [upd_n (by omega)]; exact (h.2.2.1 t ht).2 k hk
  · rw [upd_n (by omega)]; exact (h.2.2.2.1 t ht).1
  · rw [upd_n (by omega)]; exact (h.2.2.2.1 t ht).2 k hk
  · rw [upd_n (by omega)]; exact (h.2.2.2.2 j hj).1
  · rw [upd_n (by omega)]; exact (h.2.2.2.2 j hj).2 k hk
theorem Enc.sett {f : Nat → Int32} {g : GS} (h : Enc f g) {i t9 : Nat} (x : Int32) (ht9 : t9 < 2) (hi : i = 23 + 15 * t9 ∨ i = 24 + 15 * t9) (hb : ∀ t, t < 2 → (gB g t).length ≤ 6) (hl : ∀ t, t < 2 → (gL g t).length ≤ 5) : Enc (upd f i x) (gset g i x) := by
  refine ⟨fun j hj => ?_, fun t ht => ⟨?_, ?_⟩, fun t ht => ⟨?_, fun k hk => ?_⟩, fun t ht => ⟨?_, fun k hk => ?_⟩, fun j hj => ⟨?_, fun k hk => ?_⟩⟩
  · show upd f i x j = upd g.1 i x j
    unfold upd
    rw [h.1 j hj]
  · show upd f i x _ = upd g.1 i x _
    unfold upd
    rw [(h.2.1 t ht).1]
  · show upd f i x _ = upd g.1 i x _
    unfold upd
    rw [(h.2.1 t ht).2]
  · rw [upd_n (by omega)]; exact (h.2.2.1 t ht).1
  · have h8 : k < (gB g t).length := hk
    have := hb t ht
    rw [upd_n (by omega)]; exact (h.2.2.1 t ht).2 k hk
  · rw [upd_n (by omega)]; exact (h.2.2.2.1 t ht).1
  · have h8 : k < (gL g t).length := hk
    have := hl t ht
    rw [upd_n (by omega)]; exact (h.2.2.2.1 t ht).2 k hk
  · rw [upd_n (by omega)]; exact (h.2.2.2.2 j hj).1
  · rw [upd_n (by omega)]; exact (h.2.2.2.2 j hj).2 k hk
theorem gset_n {g : GS} {i j : Nat} {x : Int32} (h : j ≠ i) : (gset g i x).1 j = g.1 j := upd_n h
theorem gset_s {g : GS} {i : Nat} {x : Int32} : (gset g i x).1 i = x := pk_us
/-- the end of a turn: what is written first; whether it is over; the whole -/
def gEnd3 (g : GS) (ps : Bool) : GS := gset (gset (gset g 3 (g.1 3 + nI 1)) 2 (nI 0)) 6 (bI ps)
def gEmpty (g : GS) : Bool := !gThere g 0 && (!gThere g 1 && !gThere g 2)
def gOver (g : GS) (ps : Bool) : Bool := decide (g.1 10 ≤ g.1 (23 + 15 * gTurn g)) || (gEmpty g || ((ps && decide (g.1 6 = nI 1)) || decide (nI 60 ≤ g.1 3 + nI 1)))
def gEnd (g : GS) (ps : Bool) : GS := if gOver g ps then gset (gEnd3 g ps) 5 (nI 1) else gset (gEnd3 g ps) 1 (nI (1 - gTurn g))
theorem gEnd3_n {g : GS} {ps : Bool} {i : Nat} (h : i ≠ 3 ∧ i ≠ 2 ∧ i ≠ 6) : (gEnd3 g ps).1 i = g.1 i := by
  unfold gEnd3
  rw [gset_n h.2.2, gset_n h.2.1, gset_n h.1]
theorem gEnd3_3 {g : GS} {ps : Bool} : (gEnd3 g ps).1 3 = g.1 3 + nI 1 := by
  unfold gEnd3
  rw [gset_n (by decide), gset_n (by decide), gset_s]
theorem gEnd3_there {g : GS} {ps : Bool} {l : Nat} : gThere (gEnd3 g ps) l = gThere g l := by
  unfold gThere
  rw [gEnd3_n (by omega)]
theorem Enc.end3 {f : Nat → Int32} {g : GS} (h : Enc f g) (ps : Bool) : Enc (upd (upd (upd f 3 (g.1 3 + nI 1)) 2 (nI 0)) 6 (bI ps)) (gEnd3 g ps) := ((h.setn _ (by decide)).setn _ (by decide)).setn _ (by decide)
/-- whose turn is next; none -/
def gNextV (g : GS) : Int32 := if g.1 5 = nI 1 then -1 else g.1 1
/-- what a listener hears -/
def hearW (g : GS) (l w : Nat) : Nat := if bitI (g.1 (11 + l)) w = true ∧ w ∉ gRem g then 1 else 0
def hearN (g : GS) (l : Nat) (s : List Nat) : Nat := (s.map (hearW g l)).sum
theorem hearN_0 (g : GS) (l : Nat) (s : List Nat) : hearN g l (s.take 0) = 0 := rfl
theorem hearN_s (g : GS) (l : Nat) (s : List Nat) {k : Nat} (hk : k < s.length) : hearN g l (s.take (k + 1)) = hearN g l (s.take k) + hearW g l (s.getD k 0) := by
  unfold hearN
  rw [List.take_succ_eq_append_getElem hk, List.map_append, List.sum_append, List.getD_eq_getElem?_getD, List.getElem?_eq_getElem hk]
  simp
theorem hearN_le (g : GS) (l : Nat) (s : List Nat) : hearN g l s ≤ s.length := by
  induction s with
  | nil => simp [hearN]
  | cons a s ih =>
    have : hearW g l a ≤ 1 := by unfold hearW; split <;> omega
    simp only [hearN, List.map_cons, List.sum_cons, List.length_cons] at *
    omega
/-- the listeners hear, one by one -/
def gLis1 (g h : GS) (s : List Nat) (l : Nat) : GS :=
  if gThere h l then
    gset (gset (gset h (20 + l) (h.1 (20 + l) + nI (hearN g l s))) (14 + l) (if hearN g l s = 0 then h.1 (14 + l) + nI 1 else nI 0)) (17 + l)
      (if hearN g l s = 0 ∧ h.1 8 ≤ h.1 (14 + l) + nI 1 then nI 0 else nI 1)
  else h
def gLis (g : GS) (s : List Nat) : Nat → GS
  | 0 => g
  | l + 1 => gLis1 g (gLis g s l) s l
def gPts (g : GS) (s : List Nat) : Nat → Nat
  | 0 => 0
  | l + 1 => gPts g s l + (if gThere g l then hearN g l s else 0)
theorem gLis1_n {g h : GS} {s : List Nat} {l i : Nat} (hi : i ≠ 20 + l ∧ i ≠ 14 + l ∧ i ≠ 17 + l) : (gLis1 g h s l).1 i = h.1 i := by
  unfold gLis1
  split
  · rw [gset_n hi.2.2, gset_n hi.2.1, gset_n hi.1]
  · rfl
theorem gLis1_2 {g h : GS} {s : List Nat} {l : Nat} : (gLis1 g h s l).2 = h.2 := by
  unfold gLis1
  split <;> rfl
theorem gLis_2 {g : GS} {s : List Nat} : ∀ l, (gLis g s l).2 = g.2
  | 0 => rfl
  | l + 1 => by rw [gLis, gLis1_2]; exact gLis_2 l
/-- far places stay -/
theorem gLis_n {g : GS} {s : List Nat} {i : Nat} : ∀ l, l ≤ 3 → (i < 14 ∨ 23 ≤ i ∨ 14 + l ≤ i ∧ i < 17 ∨ 17 + l ≤ i ∧ i < 20 ∨ 20 + l ≤ i) → (gLis g s l).1 i = g.1 i
  | 0, _, _ => rfl
  | l + 1, hl, hi => by
    rw [gLis, gLis1_n (by omega)]
    exact gLis_n l (by omega) (by omega)
theorem gLis_there {g : GS} {s : List Nat} {l : Nat} (hl : l < 3) : gThere (gLis g s l) l = gThere g l := by
  unfold gThere
  rw [gLis_n l (by omega) (by omega)]
theorem gRem_same {g h : GS} (h7 : h.1 7 = g.1 7) (h2 : h.2 = g.2) : gRem h = gRem g := by
  unfold gRem gMem
  rw [h7, h2]
theorem hearN_same {g h : GS} {l : Nat} {s : List Nat} (h1 : h.1 (11 + l) = g.1 (11 + l)) (h7 : h.1 7 = g.1 7) (h2 : h.2 = g.2) : hearN h l s = hearN g l s := by
  unfold hearN
  congr 1
  apply List.map_congr_left
  intro w _
  unfold hearW
  rw [h1, gRem_same h7 h2]
/-- the log and the latest sentence -/
def gLogs (h : GS) (t : Nat) (s : List Nat) : GS := (h.1, h.2.1, fun u => if u = t then s else h.2.2.1 u, (s :: h.2.2.2).take 6)
def gTell (g : GS) (s : List Nat) : GS :=
  let h := gLogs (gLis g s 3) (gTurn g) s
  gset (gset (gset (gset h (23 + 15 * gTurn g) (h.1 (23 + 15 * gTurn g) + nI (gPts g s 3))) (24 + 15 * gTurn g) (h.1 (24 + 15 * gTurn g) + nI 1)) 4 (h.1 4 + nI 1)) 2 (nI 1)
theorem gLog_logs {h : GS} {t : Nat} {s : List Nat} {j : Nat} (hj : j < 6) : gLog (gLogs h t s) j = if j = 0 then s else gLog h (j - 1) := by
  unfold gLog gLogs
  dsimp only
  rw [List.getElem?_take, if_pos hj]
  cases j with
  | zero => rfl
  | succ j => simp
/-- the row behind the log's shift -/
theorem Enc.logs {f1 f3 : Nat → Int32} {h : GS} {t : Nat} {s : List Nat} (he : Enc f1 h) (ht : t < 2) (hs5 : s.length ≤ 5) (hlg : ∀ j, (gLog h j).length ≤ 5) (hb : ∀ t, t < 2 → (gB h t).length ≤ 6) (hl : ∀ t, t < 2 → (gL h t).length ≤ 5)
    (h1 : ∀ i, i < 53 → (i < 32 + 15 * t ∨ 38 + 15 * t ≤ i) → f3 i = f1 i) (h2 : ∀ i, 59 ≤ i → i < 89 → f3 i = f1 (i - 6)) (h3 : f3 53 = nI s.length) (h4 : f3 (32 + 15 * t) = nI s.length)
    (h5 : ∀ j, j < s.length → f3 (54 + j) = nI (s.getD j 0)) (h6 : ∀ j, j < s.length → f3 (33 + 15 * t + j) = nI (s.getD j 0)) : Enc f3 (gLogs h t s) := by
  refine ⟨fun j hj => ?_, fun u hu => ⟨?_, ?_⟩, fun u hu => ⟨?_, fun k hk => ?_⟩, fun u hu => ?_, fun j hj => ?_⟩
  · rw [h1 j (by omega) (by omega)]; exact he.1 j hj
  · rw [h1 _ (by omega) (by omega)]; exact (he.2.1 u hu).1
  · rw [h1 _ (by omega) (by omega)]; exact (he.2.1 u hu).2
  · rw [h1 _ (by omega) (by omega)]; exact (he.2.2.1 u hu).1
  · have h8 : k < (gB h u).length := hk
    have := hb u hu
    rw [h1 _ (by omega) (by omega)]; exact (he.2.2.1 u hu).2 k hk
  · by_cases e : u = t
    · subst e
      have e1 : gL (gLogs h u s) u = s := by unfold gL gLogs; simp
      rw [e1]
      exact ⟨h4, h6⟩
    · have e1 : gL (gLogs h t s) u = gL h u := by unfold gL gLogs; simp [e]
      rw [e1]
      refine ⟨?_, fun k hk => ?_⟩
      · rw [h1 _ (by omega) (by omega)]; exact (he.2.2.2.1 u hu).1
      · have := hl u hu
        rw [h1 _ (by omega) (by omega)]; exact (he.2.2.2.1 u hu).2 k hk
  · rw [gLog_logs hj]
    cases j with
    | zero => exact ⟨h3, fun k hk => h5 k hk⟩
    | succ j =>
      simp only [Nat.add_one_ne_zero, if_false, Nat.add_sub_cancel]
      have h8 := hlg j
      refine ⟨?_, fun k hk => ?_⟩
      · rw [h2 _ (by omega) (by omega), show 53 + 6 * (j + 1) - 6 = 53 + 6 * j by omega]; exact (he.2.2.2.2 j (by omega)).1
      · rw [h2 _ (by omega) (by omega), show 54 + 6 * (j + 1) + k - 6 = 54 + 6 * j + k by omega]; exact (he.2.2.2.2 j (by omega)).2 k hk
/-- forbidding a word -/
def gsetB (g : GS) (t : Nat) (l : List Nat) : GS := (g.1, fun u => if u = t then l else g.2.1 u, g.2.2)
def gBans (g : GS) : Nat := (g.1 9).toNatClampNeg
def banL (l : List Nat) (m : Nat) : List Nat := l.drop (l.length - m)
def gBan (g : GS) (w : Nat) : GS := gsetB g (1 - gTurn g) (banL (gB g (1 - gTurn g) ++ [w]) (gBans g))
theorem gBans_ok {g : GS} (h : gOk g) : 1 ≤ gBans g ∧ gBans g ≤ 5 ∧ g.1 9 = nI (gBans g) := by
  obtain ⟨m, h1, hm, e⟩ := h.2.2.2.2.2.2.2.1
  have : gBans g = m := by unfold gBans; rw [e]; exact nI_clamp (by omega)
  rw [this]
  exact ⟨h1, hm, e⟩
theorem gB_setB {g : GS} {t u : Nat} {l : List Nat} : gB (gsetB g t l) u = if u = t then l else gB g u := rfl
theorem Enc.setB {f f3 : Nat → Int32} {g : GS} {t : Nat} {l : List Nat} (he : Enc f g) (ht : t < 2) (hl : l.length ≤ 6) (hb : ∀ t, t < 2 → (gB g t).length ≤ 6) (hLl : ∀ t, t < 2 → (gL g t).length ≤ 5) (h1 : ∀ i, (i < 25 + 15 * t ∨ 32 + 15 * t ≤ i) → f3 i = f i) (h2 : f3 (25 + 15 * t) = nI l.length) (h3 : ∀ k, k < l.length → f3 (26 + 15 * t + k) = nI (l.getD k 0)) : Enc f3 (gsetB g t l) := by
  refine ⟨fun j hj => ?_, fun u hu => ⟨?_, ?_⟩, fun u hu => ?_, fun u hu => ⟨?_, fun k hk => ?_⟩, fun j hj => ⟨?_, fun k hk => ?_⟩⟩
  · rw [h1 j (by omega)]; exact he.1 j hj
  · rw [h1 _ (by omega)]; exact (he.2.1 u hu).1
  · rw [h1 _ (by omega)]; exact (he.2.1 u hu).2
  · rw [gB_setB]
    by_cases e : u = t
    · subst e
      rw [if_pos rfl]
      exact ⟨h2, h3⟩
    · rw [if_neg e]
      refine ⟨?_, fun k hk => ?_⟩
      · rw [h1 _ (by omega)]; exact (he.2.2.1 u hu).1
      · have := hb u hu
        rw [h1 _ (by omega)]; exact (he.2.2.1 u hu).2 k hk
  · rw [h1 _ (by omega)]; exact (he.2.2.2.1 u hu).1
  · have h8 : k < (gL g u).length := hk
    have := hLl u hu
    rw [h1 _ (by omega)]; exact (he.2.2.2.1 u hu).2 k hk
  · rw [h1 _ (by omega)]; exact (he.2.2.2.2 j hj).1
  · rw [h1 _ (by omega)]; exact (he.2.2.2.2 j hj).2 k hk
theorem banL_tl {l : List Nat} {m : Nat} (h : m < l.length) : banL l.tail m = banL l m := by
  unfold banL
  rw [List.length_tail, ← List.drop_one, List.drop_drop]
  congr 1
  omega
theorem banL_le {l : List Nat} {m : Nat} (h : l.length ≤ m) : banL l m = l := by
  unfold banL
  rw [show l.length - m = 0 by omega, List.drop_zero]
theorem banL_len (l : List Nat) (m : Nat) : (banL l m).length = min l.length m := by
  unfold banL
  rw [List.length_drop]
  omega
theorem banL_mem {l : List Nat} {m w : Nat} (h : w ∈ banL l m) : w ∈ l := List.mem_of_mem_drop h
theorem tail_getD (l : List Nat) (k : Nat) : l.tail.getD k 0 = l.getD (k + 1) 0 := by
  cases l with
  | nil => simp
  | cons a l => simp
/-- which words can be forbidden -/
def gCan (g : GS) (w : Nat) : Bool := gOn g && (decide (g.1 2 = nI 1) && (decide (w ∈ gL g (1 - gTurn g)) && !decide (w ∈ gB g (1 - gTurn g))))
/-- the best sentence with these gains and without those words -/
noncomputable def bst (gv : Nat → Nat) (bn : Nat → Bool) : Nat × List Nat := Classical.epsilon (fun x => BestOn (smS gv) (okS bn) x.1 x.2)
theorem bst_eq {gv : Nat → Nat} {bn : Nat → Bool} {P : Nat} {b : List Nat} (h : BestOn (smS gv) (okS bn) P b) : bst gv bn = (P, b) := by
  have h1 : BestOn (smS gv) (okS bn) (bst gv bn).1 (bst gv bn).2 := Classical.epsilon_spec (p := fun x : Nat × List Nat => BestOn (smS gv) (okS bn) x.1 x.2) ⟨(P, b), h⟩
  obtain ⟨e1, e2⟩ := h1.one h
  exact Prod.ext e1 e2
/-- the other one's best points behind forbidding w -/
noncomputable def gBeh (g : GS) (w : Nat) : Nat := (bst (gain (gBan g w)) (bnG (gBan g w) (1 - gTurn g))).1
/-- the word by rule, out of the first ones; its points -/
noncomputable def gBanN (g : GS) : Nat → Option Nat × Nat
  | 0 => (none, 1)
  | w + 1 => if gCan g w = true ∧ ((gBanN g w).1 = none ∨ gBeh g w < (gBanN g w).2) then (some w, gBeh g w) else gBanN g w
noncomputable def gBanOf (g : GS) : Option Nat := (gBanN g 18).1
def gDone (g : GS) : GS := gEnd g (decide (g.1 2 = nI 0))
def gForbid (g : GS) (w : Nat) : GS := gEnd (gBan g w) false
noncomputable def gRest (g : GS) : GS := match gBanOf g with
  | none => gDone g
  | some w => gForbid g w
noncomputable def gPlay (g : GS) : GS × Int32 :=
  if g.1 2 = nI 0 then
    (if (bst (gain g) (bnG g (gTurn g))).1 = 0 then (gDone g, -1) else (gRest (gTell g (bst (gain g) (bnG g (gTurn g))).2), ptI (bst (gain g) (bnG g (gTurn g))).1))
  else (gRest g, nI 0)
theorem ptI_lt {P L : Nat} (hP : P < 1000) (hL : L < 1000) : ptI P < ptI L ↔ P < L := by
  rw [Int32.lt_iff_toInt_lt, ptI_toInt (by omega), ptI_toInt (by omega)]
  omega
/-- numbers change, and stay in their ranges -/
theorem gOk_num {g h : GS} (ho : gOk g) (h2 : h.2 = g.2) (h0 : h.1 0 = nI 0 ∨ h.1 0 = nI 1) (h1 : h.1 1 = nI 0 ∨ h.1 1 = nI 1) (h3 : h.1 2 = nI 0 ∨ h.1 2 = nI 1) (h5 : h.1 5 = nI 0 ∨ h.1 5 = nI 1) (h6 : h.1 6 = nI 0 ∨ h.1 6 = nI 1) (hs : ∀ i, 7 ≤ i → i < 11 → h.1 i = g.1 i) (ht : ∀ i, i < 3 → h.1 (17 + i) = nI 0 ∨ h.1 (17 + i) = nI 1) : gOk h := by
  obtain ⟨-, -, -, -, -, o7, o8, o9, o10, -, oB, oL, oG, oH⟩ := ho
  have eB : ∀ t, gB h t = gB g t := fun t => by unfold gB; rw [h2]
  have eL : ∀ t, gL h t = gL g t := fun t => by unfold gL; rw [h2]
  refine ⟨h0, h1, h3, h5, h6, by rw [hs 7 (by decide) (by decide)]; exact o7, by rw [hs 8 (by decide) (by decide)]; exact o8, by rw [hs 9 (by decide) (by decide)]; exact o9, by rw [hs 10 (by decide) (by decide)]; exact o10, ht, fun t h => by rw [eB]; exact oB t h, fun t h => by rw [eL]; exact oL t h, by rw [h2]; exact oG, by rw [h2]; exact oH⟩
theorem gOk_lis {g : GS} (ho : gOk g) (s : List Nat) : ∀ l, l ≤ 3 → gOk (gLis g s l)
  | 0, _ => ho
  | l + 1, hl => by
    have h := gOk_lis ho s l (by omega)
    have o := h
    obtain ⟨o0, o1, o2, o5, o6, -, -, -, -, o17, -⟩ := o
    rw [gLis]
    refine gOk_num h gLis1_2 ?_ ?_ ?_ ?_ ?_ (fun i h1 h2 => gLis1_n (by omega)) (fun i hi => ?_)
    · rw [gLis1_n (by omega)]; exact o0
    · rw [gLis1_n (by omega)]; exact o1
    · rw [gLis1_n (by omega)]; exact o2
    · rw [gLis1_n (by omega)]; exact o5
    · rw [gLis1_n (by omega)]; exact o6
    · by_cases e : i = l
      · subst e
        unfold gLis1
        split
        · rw [gset_s]
          split
          · exact Or.inl rfl
          · exact Or.inr rfl
        · exact o17 i hi
      · rw [gLis1_n (by omega)]; exact o17 i hi
theorem hlB_logs {g : GS} (ho : gOk g) (s : List Nat) (t : Nat) : ∀ u, u < 2 → (gB (gLogs (gLis g s 3) t s) u).length ≤ 6 := by
  intro u hu
  have h1 : gB (gLogs (gLis g s 3) t s) u = gB (gLis g s 3) u := rfl
  rw [h1]
  exact Nat.le_succ_of_le (gB_ok (gOk_lis ho s 3 (by omega)) hu).1
theorem hlL_logs {g : GS} (ho : gOk g) (s : List Nat) (hs : s.length ≤ 5) (t : Nat) : ∀ u, u < 2 → (gL (gLogs (gLis g s 3) t s) u).length ≤ 5 := by
  intro u hu
  by_cases e : u = t
  · have h1 : gL (gLogs (gLis g s 3) t s) u = s := by unfold gL gLogs; simp [e]
    rw [h1]; exact hs
  · have h1 : gL (gLogs (gLis g s 3) t s) u = gL (gLis g s 3) u := by unfold gL gLogs; simp [e]
    rw [h1]
    exact (gL_ok (gOk_lis ho s 3 (by omega)) hu).1
