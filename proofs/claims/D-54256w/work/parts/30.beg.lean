/-! HISTORY, BEGINNING: plain laws -/
set_option maxRecDepth 100000
def histC (hs : List GS) (fD : Nat → Int32) : Prop := hs.length ≤ 14 ∧ ∀ j, j < hs.length → gV (hs.getD j g00) ∧ Enc (fun i => fD (89 * j + i)) (hs.getD j g00)
theorem getD_app1 {l : List GS} {g : GS} {j : Nat} (h : j < l.length) : (l ++ [g]).getD j g00 = l.getD j g00 := by
  rw [List.getD_eq_getElem?_getD, List.getD_eq_getElem?_getD, List.getElem?_append_left h]
theorem getD_app2 {l : List GS} {g : GS} : (l ++ [g]).getD l.length g00 = g := by
  rw [List.getD_eq_getElem?_getD, List.getElem?_append_right (Nat.le_refl _)]
  simp
theorem histC.push {hs : List GS} {fD fN : Nat → Int32} {g : GS} (h : histC hs fD) (hl : hs.length ≤ 13) (he : Enc fN g) (hg : gV g) : histC (hs ++ [g]) (va_cpy fN fD 0 (89 * hs.length) 89) := by
  refine ⟨by simp; omega, fun j hj => ?_⟩
  rw [List.length_append, List.length_singleton] at hj
  rcases Nat.lt_succ_iff_lt_or_eq.mp hj with z | z
  · rw [getD_app1 z]
    obtain ⟨h1, h2⟩ := h.2 j z
    exact ⟨h1, h2.congr h1.1 (fun i hi => pk_cpy_out (Or.inl (by omega)))⟩
  · subst z
    rw [getD_app2]
    refine ⟨hg, he.congr hg.1 (fun i hi => ?_)⟩
    show va_cpy fN fD 0 (89 * hs.length) 89 (89 * hs.length + i) = fN i
    rw [pk_cpy_in (by omega) (by omega)]
    congr 1
    omega
theorem histC.tail {hs : List GS} {fD f2 : Nat → Int32} (h : histC hs fD) (hl : hs.length = 14) (h2 : ∀ i, i < 1157 → f2 i = fD (i + 89)) : histC hs.tail f2 := by
  refine ⟨by rw [List.length_tail]; omega, fun j hj => ?_⟩
  rw [List.length_tail] at hj
  have e : hs.tail.getD j g00 = hs.getD (j + 1) g00 := by cases hs <;> simp
  rw [e]
  obtain ⟨h3, h4⟩ := h.2 (j + 1) (by omega)
  refine ⟨h3, h4.congr h3.1 (fun i hi => ?_)⟩
  show f2 (89 * j + i) = fD (89 * (j + 1) + i)
  rw [h2 _ (by omega)]
  congr 1
  omega
theorem histC.init {hs : List GS} {fD : Nat → Int32} (h : histC hs fD) : histC hs.dropLast fD := by
  refine ⟨by rw [List.length_dropLast]; have := h.1; omega, fun j hj => ?_⟩
  rw [List.length_dropLast] at hj
  have e : hs.dropLast.getD j g00 = hs.getD j g00 := by
    rw [List.getD_eq_getElem?_getD, List.getD_eq_getElem?_getD, List.getElem?_dropLast, if_pos hj]
  rw [e]
  exact h.2 j (by omega)
theorem histC.last {hs : List GS} {fD fN : Nat → Int32} (h : histC hs fD) (hl : 0 < hs.length) : gV (hs.getD (hs.length - 1) g00) ∧ Enc (va_cpy fD fN (89 * (hs.length - 1)) 0 89) (hs.getD (hs.length - 1) g00) := by
  obtain ⟨h1, h2⟩ := h.2 (hs.length - 1) (by omega)
  refine ⟨h1, h2.congr h1.1 (fun i hi => ?_)⟩
  rw [pk_cpy_in (by omega) (by omega)]
  show fD _ = fD _
  congr 1
theorem pushH_len (hs : List GS) (g : GS) (h : hs.length ≤ 14) : (pushH hs g).length ≤ 14 := by
  unfold pushH
  split <;> simp <;> omega
theorem bitI_or (x y : Int32) (k : Nat) : bitI (x ||| y) k = (bitI x k || bitI y k) := by
  unfold bitI
  rw [Int32.toBitVec_or, BitVec.getLsbD_or]
theorem bitI_0 (k : Nat) : bitI (nI 0) k = false := by
  unfold bitI
  show (0#32).getLsbD k = false
  simp
theorem bitI_1 {w k : Nat} (hw : w < 32) (hk : k < 32) : bitI (nI 1 <<< (nI w &&& 31)) k = decide (k = w) := by
  rw [sh31 hw]
  unfold bitI
  have : ∀ w k : Fin 32, (nI 1 <<< nI w.val).toBitVec.getLsbD k.val = decide (k.val = w.val) := by decide +kernel
  exact this ⟨w, hw⟩ ⟨k, hk⟩
theorem bitI_mkS (P : Nat → Bool) {n k : Nat} (hn : n ≤ 32) (hk : k < 32) : bitI (mkS P n) k = (decide (k < n) && P k) := by
  induction n with
  | zero => rw [mkS, bitI_0]; simp
  | succ n ih =>
    rw [mkS, bitI_or, ih (by omega)]
    by_cases h : P n
    · rw [if_pos h, bitI_1 (by omega) hk]
      by_cases e : k = n
      · subst e; simp [h]
      · have : (k < n + 1) = (k < n) := by apply propext; omega
        simp [e, this]
    · rw [if_neg h, bitI_0]
      by_cases e : k = n
      · subst e; simp [h]
      · have : (k < n + 1) = (k < n) := by apply propext; omega
        simp [this]
theorem bitI_ext {x y : Int32} (h : ∀ k, k < 32 → bitI x k = bitI y k) : x = y := by
  apply Int32.toBitVec_inj.mp
  apply BitVec.eq_of_getLsbD_eq
  intro i hi
  exact h i hi
/-- the reference's row while a duel begins -/
def begF (g : GS) (x : Int64) (l i : Nat) : Int32 :=
  if 7 ≤ i ∧ i < 11 then g.1 i else if i = 0 then nI 1 else if 11 ≤ i ∧ i < 11 + l then mkS (lik x (i - 11)) 18 else if 17 ≤ i ∧ i < 17 + l then nI 1 else nI 0
def begW (g : GS) (x : Int64) (l w i : Nat) : Int32 := if i = 17 + l then nI 1 else if i = 11 + l then mkS (lik x l) w else begF g x l i
theorem begW_0 {g : GS} {x : Int64} {l i : Nat} (hl : l < 3) {f : Nat → Int32} (h : f i = begF g x l i) : upd f (17 + l) (nI 1) i = begW g x l 0 i := by
  unfold begW
  by_cases e : i = 17 + l
  · rw [if_pos e, upd_s e]
  · rw [if_neg e, upd_n e, h]
    by_cases e2 : i = 11 + l
    · rw [if_pos e2]
      unfold begF
      rw [if_neg (by omega), if_neg (by omega), if_neg (by omega), if_neg (by omega)]
      rfl
    · rw [if_neg e2]
theorem begW_s {g : GS} {x : Int64} {l w i : Nat} {f : Nat → Int32} {v : Int32} (h : f i = begW g x l w i) (hv : v = mkS (lik x l) (w + 1)) : upd f (11 + l) v i = begW g x l (w + 1) i := by
  unfold begW at *
  by_cases e : i = 11 + l
  · rw [upd_s e, if_neg (by omega), if_pos e, hv]
  · rw [upd_n e, h, if_neg e, if_neg e]
theorem begW_18 {g : GS} {x : Int64} {l i : Nat} (hl : l < 3) : begW g x l 18 i = begF g x (l + 1) i := by
  unfold begW begF
  by_cases e : i = 17 + l
  · rw [if_pos e, if_neg (by omega), if_neg (by omega), if_neg (by omega), if_pos (by omega)]
  · rw [if_neg e]
    by_cases e2 : i = 11 + l
    · rw [if_pos e2, if_neg (by omega), if_neg (by omega), if_pos (by omega)]
      congr 2
      omega
    · rw [if_neg e2]
      have h1 : (11 ≤ i ∧ i < 11 + l) = (11 ≤ i ∧ i < 11 + (l + 1)) := by apply propext; omega
      have h2 : (17 ≤ i ∧ i < 17 + l) = (17 ≤ i ∧ i < 17 + (l + 1)) := by apply propext; omega
      simp only [h1, h2]
theorem begF_enc {g : GS} {x : Int64} {f : Nat → Int32} (h : ∀ i, i < 89 → f i = begF g x 3 i) : Enc f (gBegin g x) := by
  have e0 : ∀ i, i < 89 → 23 ≤ i → f i = nI 0 := fun i hi h2 => by
    rw [h i hi]
    unfold begF
    rw [if_neg (by omega), if_neg (by omega), if_neg (by omega), if_neg (by omega)]
  have eB : ∀ t, gB (gBegin g x) t = [] := fun t => rfl
  have eL : ∀ t, gL (gBegin g x) t = [] := fun t => rfl
  have eG : ∀ j, gLog (gBegin g x) j = [] := fun j => by unfold gLog gBegin; simp
  refine ⟨fun i hi => h i (by omega), fun t ht => ?_, fun t ht => ?_, fun t ht => ?_, fun j hj => ?_⟩
  · rw [e0 _ (by omega) (by omega), e0 _ (by omega) (by omega)]
    unfold gBegin
    dsimp only
    refine ⟨?_, ?_⟩ <;> rw [if_neg (by omega), if_neg (by omega), if_neg (by omega), if_neg (by omega)]
  · rw [eB]
    exact ⟨e0 _ (by omega) (by omega), fun k hk => absurd hk (Nat.not_lt_zero _)⟩
  · rw [eL]
    exact ⟨e0 _ (by omega) (by omega), fun k hk => absurd hk (Nat.not_lt_zero _)⟩
  · rw [eG]
    exact ⟨e0 _ (by omega) (by omega), fun k hk => absurd hk (Nat.not_lt_zero _)⟩
theorem gBegin_n {g : GS} {x : Int64} {i : Nat} (h : 7 ≤ i ∧ i < 11) : (gBegin g x).1 i = g.1 i := if_pos h
theorem gV_begin {g : GS} (hg : gOk g) (x : Int64) : gV (gBegin g x) := by
  obtain ⟨-, -, -, -, -, o7, o8, o9, o10, -⟩ := hg
  have e0 : (gBegin g x).1 0 = nI 1 := rfl
  refine ⟨⟨Or.inr rfl, Or.inl rfl, Or.inl rfl, Or.inl rfl, Or.inl rfl, by rw [gBegin_n (by omega)]; exact o7, by rw [gBegin_n (by omega)]; exact o8, by rw [gBegin_n (by omega)]; exact o9, by rw [gBegin_n (by omega)]; exact o10, fun i hi => Or.inr ?_, fun t ht => ⟨Nat.zero_le _, fun w hw => ?_⟩, fun t ht => ⟨Nat.zero_le _, fun w hw => ?_⟩, Nat.zero_le _, fun l hl => ?_⟩, fun h => ?_⟩
  · unfold gBegin
    dsimp only
    rw [if_neg (by omega), if_neg (by omega), if_neg (by omega), if_pos (by omega)]
  · exact absurd hw (List.not_mem_nil)
  · exact absurd hw (List.not_mem_nil)
  · exact absurd hl (List.not_mem_nil)
  · rw [e0] at h
    exact absurd h (by decide)
def orS (x : Int64) : Nat → Int32
  | 0 => nI 0
  | l + 1 => orS x l ||| mkS (lik x l) 18
theorem orS_3 (x : Int64) {w : Nat} (hw : w < 18) : (orS x 3 >>> (nI w &&& 31)) &&& nI 1 = bI (liked x w) := by
  rw [bit_shr _ (by omega)]
  congr 1
  unfold orS orS orS orS liked
  rw [bitI_or, bitI_or, bitI_or, bitI_0, bitI_mkS _ (by omega) (by omega), bitI_mkS _ (by omega) (by omega), bitI_mkS _ (by omega) (by omega)]
  simp [hw, Bool.or_assoc]
theorem cntB_s (P : Nat → Bool) (w : Nat) : nI (cntB P w) + bI (P w) = nI (cntB P (w + 1)) := by
  rw [cntB]
  cases P w
  · exact nI_add _ 0
  · exact nI_add _ 1
theorem cntB_le (P : Nat → Bool) (w : Nat) : cntB P w ≤ w := by
  induction w with
  | zero => exact Nat.le_refl _
  | succ w ih => rw [cntB]; split <;> omega
/-- a duel that stands makes a value whole -/
theorem gV_of {g : GS} (h : gOk g) (h0 : g.1 0 = nI 1) : gV g := ⟨h, fun e => by rw [h0] at e; exact absurd e (by decide)⟩
theorem gEnd_0 {g : GS} {ps : Bool} : (gEnd g ps).1 0 = g.1 0 := by
  unfold gEnd
  split <;> rw [gset_n (by decide), gEnd3_n (by decide)]
theorem gTell_0 {g : GS} {s : List Nat} : (gTell g s).1 0 = g.1 0 := by
  unfold gTell
  rw [gset_n (by decide), gset_n (by decide), gset_n (by omega), gset_n (by omega)]
  exact gLis_n 3 (by decide) (by omega)
theorem gRest_0 {g : GS} : (gRest g).1 0 = g.1 0 := by
  unfold gRest
  cases gBanOf g with
  | none => exact gEnd_0
  | some w => exact gEnd_0.trans rfl
theorem gPlay_0 {g : GS} : (gPlay g).1.1 0 = g.1 0 := by
  unfold gPlay
  split
  · split
    · exact gEnd_0
    · exact gRest_0.trans gTell_0
  · exact gRest_0
theorem setOk_1 {x y : Int32} (h : setOk x y = true) : inR x.toInt 0 3 = true := by
  unfold setOk at h
  exact (Bool.and_eq_true_iff.mp h).1
theorem setOk_2 {x y : Int32} (h : setOk x y = true) : inR y.toInt (setLo x) (setHi x) = true := by
  unfold setOk at h
  exact (Bool.and_eq_true_iff.mp h).2
theorem inR_lo {y : Int32} {a b : Nat} (h : inR y.toInt a b = true) : ∃ k : Nat, a ≤ k ∧ k ≤ b ∧ y = nI k := by
  have h1 := of_decide_eq_true h
  have h2 := fb_rngX y
  refine ⟨y.toInt.toNat, by omega, by omega, ?_⟩
  apply Int32.toInt_inj.mp
  rw [nI_toInt (by omega)]
  omega
theorem gV_set {g : GS} {n : Nat} {y : Int32} (hg : gV g) (hn : n ≤ 3) (h : setOk (nI n) y = true) : gV (gset g (7 + n) y) := by
  obtain ⟨⟨o0, o1, o2, o5, o6, o7, o8, o9, o10, o17, oB, oL, oG, oH⟩, hz⟩ := hg
  have hy := setOk_2 h
  refine ⟨⟨by rw [gset_n (by omega)]; exact o0, by rw [gset_n (by omega)]; exact o1, by rw [gset_n (by omega)]; exact o2, by rw [gset_n (by omega)]; exact o5, by rw [gset_n (by omega)]; exact o6, ?_, ?_, ?_, ?_, fun i hi => by rw [gset_n (by omega)]; exact o17 i hi, oB, oL, oG, oH⟩, fun h0 => ?_⟩
  · by_cases e : n = 0
    · subst e
      obtain ⟨k, h1, h2, h3⟩ := inR_lo (a := 0) (b := 6) hy
      exact ⟨k, h2, by rw [← h3]; exact gset_s⟩
    · rw [gset_n (by omega)]; exact o7
  · by_cases e : n = 1
    · subst e
      obtain ⟨k, h1, h2, h3⟩ := inR_lo (a := 1) (b := 9) hy
      exact ⟨k, h1, h2, by rw [← h3]; exact gset_s⟩
    · rw [gset_n (by omega)]; exact o8
  · by_cases e : n = 2
    · subst e
      obtain ⟨k, h1, h2, h3⟩ := inR_lo (a := 1) (b := 5) hy
      exact ⟨k, h1, h2, by rw [← h3]; exact gset_s⟩
    · rw [gset_n (by omega)]; exact o9
  · by_cases e : n = 3
    · subst e
      obtain ⟨k, h1, h2, h3⟩ := inR_lo (a := 5) (b := 99) hy
      exact ⟨k, h1, h2, by rw [← h3]; exact gset_s⟩
    · rw [gset_n (by omega)]; exact o10
  · rw [gset_n (by omega)] at h0
    obtain ⟨z1, z2, z3, z4⟩ := hz h0
    refine ⟨fun i hi => by rw [gset_n (by omega)]; exact z1 i hi, fun i h1 h2 => by rw [gset_n (by omega)]; exact z2 i h1 h2, fun t ht => ?_, z4⟩
    rw [gset_n (by omega), gset_n (by omega)]
    exact z3 t ht
theorem gOn_0 {g : GS} (h : gOn g = true) : g.1 0 = nI 1 := (of_decide_eq_true h).1
theorem gCan_on {g : GS} {w : Nat} (h : gCan g w = true) : gOn g = true := by
  unfold gCan at h
  exact (Bool.and_eq_true_iff.mp h).1
theorem gCanTellN_on {g : GS} {T : List Nat} (h : gCanTellN g T = true) : gOn g = true := by
  unfold gCanTellN at h
  exact (Bool.and_eq_true_iff.mp h).1
/-- there is a best sentence -/
def allS : Nat → List (List Nat)
  | 0 => [[]]
  | n + 1 => [] :: (List.range 18).flatMap (fun w => (allS n).map (fun s => w :: s))
theorem allS_mem : ∀ (n : Nat) (s : List Nat), s.length ≤ n → (∀ w ∈ s, w < 18) → s ∈ allS n
  | 0, s, h, _ => by
    have : s = [] := List.length_eq_zero_iff.mp (by omega)
    subst this
    exact List.mem_cons_self
  | n + 1, [], _, _ => List.mem_cons_self
  | n + 1, w :: s, h, hw => by
    refine List.mem_cons_of_mem _ (List.mem_flatMap.mpr ⟨w, List.mem_range.mpr (hw w List.mem_cons_self), List.mem_map.mpr ⟨s, allS_mem n s (by simpa using h) (fun v hv => hw v (List.mem_cons_of_mem _ hv)), rfl⟩⟩)
theorem best_on (sm : List Nat → Nat) (bn : Nat → Bool) : ∀ L : List (List Nat), ∃ P b, BestOn sm (fun s => s ∈ L ∧ okS bn s) P b
  | [] => ⟨0, [], BestOn.none.congr fun s => ⟨fun h => h.elim, fun h => absurd h.1 List.not_mem_nil⟩⟩
  | c :: L => by
    obtain ⟨P, b, h⟩ := best_on sm bn L
    have ha := h.add (c := c) (bn := bn)
    have e : ∀ s, ((s ∈ L ∧ okS bn s) ∨ (s = c ∧ okS bn s)) ↔ (s ∈ c :: L ∧ okS bn s) := fun s => by
      rw [List.mem_cons]
      constructor
      · rintro (⟨h1, h2⟩ | ⟨h1, h2⟩)
        · exact ⟨Or.inr h1, h2⟩
        · exact ⟨Or.inl h1, h2⟩
      · rintro ⟨h1 | h1, h2⟩
        · exact Or.inr ⟨h1, h2⟩
        · exact Or.inl ⟨h1, h2⟩
    by_cases ho : okS bn c
    · cases hb : isBetterB (sm c) c P b with
      | true => exact ⟨_, _, (ha.2.1 ho hb).congr e⟩
      | false => exact ⟨_, _, (ha.2.2 ho hb).congr e⟩
    · exact ⟨_, _, (ha.1 ho).congr e⟩
theorem bst_on (gv : Nat → Nat) (bn : Nat → Bool) : BestOn (smS gv) (okS bn) (bst gv bn).1 (bst gv bn).2 := by
  obtain ⟨P, b, h⟩ := best_on (smS gv) bn (allS 5)
  have h2 : BestOn (smS gv) (okS bn) P b := h.congr fun s => ⟨And.right, fun h9 => ⟨allS_mem 5 s (Sent_len h9.1).2 h9.1.2.2, h9⟩⟩
  rw [bst_eq h2]
  exact h2
theorem bst_info (gv : Nat → Nat) (bn : Nat → Bool) (hv : ∀ w, gv w ≤ 3) : (bst gv bn).1 ≤ 16 ∧ (bst gv bn).2.length ≤ 5 ∧ ∀ w ∈ (bst gv bn).2, w < 18 := (bst_on gv bn).info (fun _ h => h) hv
theorem gOk_rest {g : GS} (ho : gOk g) : gOk (gRest g) := by
  unfold gRest
  cases h : gBanOf g with
  | none => exact gOk_end ho _
  | some w => exact gOk_end (gOk_ban ho (gBanOf_lt h)) _
theorem gOk_play {g : GS} (ho : gOk g) : gOk (gPlay g).1 := by
  unfold gPlay
  have h := bst_info (gain g) (bnG g (gTurn g)) (gain_le g)
  split
  · split
    · exact gOk_end ho _
    · exact gOk_rest (gOk_tell ho h.2.1 h.2.2)
  · exact gOk_rest ho
theorem gOk_stir {g : GS} (ho : gOk g) (r : Nat) : gOk (gStir g r) := by
  unfold gStir
  split
  · exact gOk_end ho _
  · split
    · split
      · exact gOk_end (gOk_ban ho (Nat.mod_lt _ (by decide))) _
      · exact gOk_end ho _
    · exact gOk_play ho
theorem gOk_cmd {g : GS} (ho : gOk g) (T : List Nat) (how a b : Nat) : gOk (gCmd g T how a b).2 := by
  unfold gCmd
  split
  · split
    · rename_i h
      exact gOk_tell ho (Sent_len (gCanTellN_sent h.2)).2 (gCanTellN_sent h.2).2.2
    · exact ho
  · split
    · split
      · rename_i h
        exact gOk_end (gOk_ban ho h.1) _
      · exact ho
    · split
      · split
        · exact gOk_end ho _
        · exact ho
      · split
        · split
          · exact gOk_play ho
          · exact ho
        · split
          · split
            · rename_i h
              have h9 := setOk_2 h.2
              obtain ⟨k, h1, h2, h3⟩ := inR_lo (a := 0) (b := 6) h9
              obtain ⟨o0, o1, o2, o5, o6, o7, o8, o9, o10, o17, oB, oL, oG, oH⟩ := ho
              exact ⟨by rw [gset_n (by omega)]; exact o0, by rw [gset_n (by omega)]; exact o1, by rw [gset_n (by omega)]; exact o2, by rw [gset_n (by omega)]; exact o5, by rw [gset_n (by omega)]; exact o6, ⟨k, h2, by rw [← h3]; exact gset_s⟩, by rw [gset_n (by omega)]; exact o8, by rw [gset_n (by omega)]; exact o9, by rw [gset_n (by omega)]; exact o10, fun i hi => by rw [gset_n (by omega)]; exact o17 i hi, oB, oL, oG, oH⟩
            · exact ho
          · split
            · exact ho
            · split
              · exact ho
              · split
                · exact ho
                · split
                  · exact ho
                  · exact ho
