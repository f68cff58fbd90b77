/-! THE END OF A TURN, on the class's side: plain laws -/
set_option maxRecDepth 100000
theorem there_0 {g : GS} : mkS (gThere g) 3 = nI 0 ↔ gEmpty g = true := by
  unfold gEmpty mkS mkS mkS mkS
  cases gThere g 0 <;> cases gThere g 1 <;> cases gThere g 2 <;> decide
theorem gOver_t {g : GS} {sp ps : Bool} (h6 : g.1 6 = bI ps) (h : g.1 10 ≤ g.1 (23 + 15 * gTurn g) ∨ mkS (gThere g) 3 = nI 0 ∨ (sp = false ∧ ps = true) ∨ nI 60 ≤ g.1 3 + nI 1) : gOver g (!sp) = true := by
  unfold gOver
  rcases h with h | h | ⟨h, h2⟩ | h
  · rw [decide_eq_true h]; rfl
  · rw [there_0.mp h]; simp
  · subst h; subst h2; rw [h6]; simp [bI]; exact Or.inr (Or.inr (Or.inl rfl))
  · rw [decide_eq_true h]; simp
theorem gOver_f {g : GS} {sp ps : Bool} (h6 : g.1 6 = bI ps) (h1 : ¬ g.1 10 ≤ g.1 (23 + 15 * gTurn g)) (h2 : ¬ mkS (gThere g) 3 = nI 0) (h3 : sp = true ∨ ps = false) (h4 : ¬ nI 60 ≤ g.1 3 + nI 1) : gOver g (!sp) = false := by
  unfold gOver
  have e2 : gEmpty g = false := by
    cases h : gEmpty g with
    | false => rfl
    | true => exact absurd (there_0.mpr h) h2
  have e3 : ((!sp) && decide (g.1 6 = nI 1)) = false := by
    rcases h3 with h | h
    · subst h; rfl
    · subst h; rw [h6]; cases sp <;> rfl
  rw [decide_eq_false h1, e2, e3, decide_eq_false h4]
  rfl
theorem gEnd_n {g : GS} {p : Bool} {i : Nat} (h : i ≠ 1 ∧ i ≠ 2 ∧ i ≠ 3 ∧ i ≠ 5 ∧ i ≠ 6) : (gEnd g p).1 i = g.1 i := by
  unfold gEnd
  split
  · rw [gset_n (by omega), gEnd3_n (by omega)]
  · rw [gset_n (by omega), gEnd3_n (by omega)]
theorem gEnd_2 {g : GS} {p : Bool} : (gEnd g p).2 = g.2 := by
  unfold gEnd
  split <;> rfl
theorem gEnd_v3 {g : GS} {p : Bool} : (gEnd g p).1 3 = g.1 3 + nI 1 := by
  unfold gEnd
  split <;> rw [gset_n (by decide), gEnd3_3]
theorem duOk_end {g : GS} {p : Bool} (h5 : g.1 5 = nI 0) : duOk (gEnd g p) (1 - gTurn g) false p (gOver g p) := by
  have ht := gTurn_lt g
  unfold gEnd
  cases h : gOver g p with
  | true =>
    rw [if_pos rfl]
    refine ⟨by omega, fun e => ?_, ?_, ?_, ?_⟩
    · rw [gset_s] at e; exact absurd e (by decide)
    · rw [gset_n (by decide)]; unfold gEnd3; rw [gset_n (by decide), gset_s]; rfl
    · rw [gset_n (by decide)]; unfold gEnd3; rw [gset_s]
    · rw [gset_s]; rfl
  | false =>
    rw [if_neg (by decide)]
    refine ⟨by omega, fun e => gset_s, ?_, ?_, ?_⟩
    · rw [gset_n (by decide)]; unfold gEnd3; rw [gset_n (by decide), gset_s]; rfl
    · rw [gset_n (by decide)]; unfold gEnd3; rw [gset_s]
    · rw [gset_n (by decide), gEnd3_n (by decide), h5]; rfl
theorem duL_end {G : EVT} {Z : List (Nat × List Nat)} {d st tl ll to tm ox l0 l1 l2 : Nat} {fT fL : Nat → Option Nat} {g : GS} {p : Bool} {t tv : Nat} {sp ps ov : Bool} (ht : t < 2) : duL G Z d st tl ll to tm ox l0 l1 l2 fT fL (gEnd g p) t tv sp ps ov =
    [pts d (.inr (4, [.ref st, .ref tl, .ref ll, .ref to, .int (g.1 4), .int (nI tv), .int (g.1 3 + nI 1), .int (bI sp), .int (bI ps), .int (bI ov)])), pts tl (.inl (G.2.1 6, 2, .inr (.inr (.inr (.inr fT))))), pts ll (.inl (G.2.1 7, 3, .inr (.inr (.inr (.inr fL))))), tlrG G Z tm g t, tlrG G Z ox g (1 - t), pts l0 (lisO g 0), pts l1 (lisO g 1), pts l2 (lisO g 2), stoA G Z to g.2.2.2] := by
  have eT : ∀ q u, u < 2 → tlrG G Z q (gEnd g p) u = tlrG G Z q g u := fun q u hu => by
    unfold tlrG gL gB
    rw [gEnd_n (by omega), gEnd_n (by omega), gEnd_2]
  have eL : ∀ l, l < 3 → lisO (gEnd g p) l = lisO g l := fun l hl => by
    unfold lisO gThere
    rw [gEnd_n (by omega), gEnd_n (by omega), gEnd_n (by omega), gEnd_n (by omega)]
  unfold duL
  rw [eT _ _ ht, eT _ _ (by omega), eL 0 (by decide), eL 1 (by decide), eL 2 (by decide), gEnd_n (i := 4) (by decide), gEnd_v3, gEnd_2]
theorem duL_ban {G : EVT} {Z : List (Nat × List Nat)} {d st tl ll to tm ox l0 l1 l2 : Nat} {fT fL : Nat → Option Nat} {g : GS} {w1 : Nat} {tv : Nat} {sp ps ov : Bool} : duL G Z d st tl ll to tm ox l0 l1 l2 fT fL (gBan g w1) (gTurn g) tv sp ps ov =
    [pts d (.inr (4, [.ref st, .ref tl, .ref ll, .ref to, .int (g.1 4), .int (nI tv), .int (g.1 3), .int (bI sp), .int (bI ps), .int (bI ov)])), pts tl (.inl (G.2.1 6, 2, .inr (.inr (.inr (.inr fT))))), pts ll (.inl (G.2.1 7, 3, .inr (.inr (.inr (.inr fL))))), tlrG G Z tm g (gTurn g), tlrA G Z ox (g.1 (23 + 15 * (1 - gTurn g))) (g.1 (24 + 15 * (1 - gTurn g))) (gL g (1 - gTurn g)) (banL (gB g (1 - gTurn g) ++ [w1]) (gBans g)), pts l0 (lisO g 0), pts l1 (lisO g 1), pts l2 (lisO g 2), stoA G Z to g.2.2.2] := by
  have ht := gTurn_lt g
  have e1 : gB (gBan g w1) (gTurn g) = gB g (gTurn g) := by
    unfold gBan
    rw [gB_setB, if_neg (by omega)]
  unfold duL tlrG
  rw [e1, gB_ban]
  rfl
/-- the words that can be forbidden now -/
def bnL (g : GS) : List Nat := if g.1 5 = nI 0 ∧ g.1 2 = nI 1 then (gL g (1 - gTurn g)).filter (fun w => !decide (w ∈ gB g (1 - gTurn g))) else []
theorem bnL_can {g : GS} {w : Nat} (h0 : g.1 0 = nI 1) : decide (w ∈ bnL g) = gCan g w := by
  unfold bnL gCan gOn
  by_cases h5 : g.1 5 = nI 0 <;> by_cases h2 : g.1 2 = nI 1 <;> simp [h0, h5, h2]
theorem can_n {g : GS} {T : List Nat} (h : g.1 5 ≠ nI 0 ∨ g.1 2 ≠ nI 0 ∨ rd 0 [] T ≠ none ∨ ¬ ∀ w ∈ tW T, w ∉ gB g (gTurn g)) : gCanTellN g T = false := by
  unfold gCanTellN gOn gCanTell
  rcases h with h | h | h | h
  · rw [decide_eq_false (show ¬ (g.1 0 = nI 1 ∧ g.1 5 = nI 0) from fun z => h z.2)]; rfl
  · rw [decide_eq_false (show ¬ g.1 2 = nI 0 from h)]; simp
  · rw [decide_eq_false (show ¬ (g.1 0 ≠ nI 0 ∧ rd 0 [] T = none ∧ ∀ w ∈ tW T, w ∉ gB g (gTurn g)) from fun z => h z.2.1)]; simp
  · rw [decide_eq_false (show ¬ (g.1 0 ≠ nI 0 ∧ rd 0 [] T = none ∧ ∀ w ∈ tW T, w ∉ gB g (gTurn g)) from fun z => h z.2.2)]; simp
theorem can_y {g : GS} {T : List Nat} (h0 : g.1 0 = nI 1) (h5 : g.1 5 = nI 0) (h2 : g.1 2 = nI 0) (h3 : rd 0 [] T = none) (h4 : ∀ w ∈ tW T, w ∉ gB g (gTurn g)) : gCanTellN g T = true := by
  unfold gCanTellN gOn gCanTell
  rw [decide_eq_true (show g.1 0 = nI 1 ∧ g.1 5 = nI 0 from ⟨h0, h5⟩), decide_eq_true h2, decide_eq_true (show g.1 0 ≠ nI 0 ∧ rd 0 [] T = none ∧ ∀ w ∈ tW T, w ∉ gB g (gTurn g) from ⟨by rw [h0]; decide, h3, h4⟩)]
  rfl
theorem rd_ok : ∀ (T : List Nat) (q : Nat) (seen : List Nat), rd q seen T = none → senOk T := by
  intro T
  induction T with
  | nil => intro q seen _ x hx; exact absurd hx List.not_mem_nil
  | cons c T ih =>
    intro q seen h
    unfold rd at h
    cases e : txW c with
    | none => rw [e] at h; simp at h
    | some w =>
      rw [e] at h
      have hc : 97 ≤ c ∧ c < 115 := by
        unfold txW at e
        split at e
        · assumption
        · cases e
      simp only at h
      split at h
      · intro x hx
        rcases List.mem_cons.mp hx with z | z
        · rw [z]; exact hc
        · exact ih _ _ (by simpa using h) x z
      · cases h
theorem meet_0 {T : List Nat} {bl : List Nat} (hT : senOk T) : (msk (tW T) &&& msk bl = nI 0) ↔ ∀ w ∈ tW T, w ∉ bl := by
  have h18 : ∀ w ∈ tW T, w < 18 := by
    intro w hw
    unfold tW at hw
    obtain ⟨x, hx, rfl⟩ := List.mem_map.mp hw
    have := hT x hx
    omega
  rw [msk_inter, msk_0 (fun w hw => h18 w (List.mem_filter.mp hw).1), List.filter_eq_nil_iff]
  simp
