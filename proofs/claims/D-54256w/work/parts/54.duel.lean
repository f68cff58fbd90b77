/-! A DUEL as a resource -/
set_option maxRecDepth 100000
def duOk (g : GS) (tv : Nat) (sp ps ov : Bool) : Prop := tv < 2 ∧ (g.1 5 = nI 0 → g.1 1 = nI tv) ∧ g.1 2 = bI sp ∧ g.1 6 = bI ps ∧ g.1 5 = bI ov
def lisO (g : GS) (l : Nat) : va_E := .inr (7, [.int (g.1 (11 + l)), .int (g.1 (14 + l)), .int (bI (!gThere g l)), .int (g.1 (20 + l))])
def tlrG (G : EVT) (Z : List (Nat × List Nat)) (q : Nat) (g : GS) (t : Nat) : Asn := tlrA G Z q (g.1 (23 + 15 * t)) (g.1 (24 + 15 * t)) (gL g t) (gB g t)
def duL (G : EVT) (Z : List (Nat × List Nat)) (d st tl ll to tm ox l0 l1 l2 : Nat) (fT fL : Nat → Option Nat) (g : GS) (t tv : Nat) (sp ps ov : Bool) : List Asn :=
  [pts d (.inr (4, [.ref st, .ref tl, .ref ll, .ref to, .int (g.1 4), .int (nI tv), .int (g.1 3), .int (bI sp), .int (bI ps), .int (bI ov)])),
   pts tl (.inl (G.2.1 6, 2, .inr (.inr (.inr (.inr fT))))), pts ll (.inl (G.2.1 7, 3, .inr (.inr (.inr (.inr fL))))), tlrG G Z tm g t, tlrG G Z ox g (1 - t), pts l0 (lisO g 0), pts l1 (lisO g 1), pts l2 (lisO g 2), stoA G Z to g.2.2.2]
def duelA (G : EVT) (Z : List (Nat × List Nat)) (d st : Nat) (g : GS) : Asn := fun w => ∃ (tl ll to t0 t1 l0 l1 l2 : Nat) (fT fL : Nat → Option Nat) (tv : Nat) (sp ps ov : Bool), (duOk g tv sp ps ov ∧ fT 0 = some t0 ∧ fT 1 = some t1 ∧ fL 0 = some l0 ∧ fL 1 = some l1 ∧ fL 2 = some l2) ∧ bigA (duL G Z d st tl ll to t0 t1 l0 l1 l2 fT fL g 0 tv sp ps ov) w
theorem big_swap {a b c x y : Asn} {Ps : List Asn} {w : va_W} (h : bigA (a :: b :: c :: x :: y :: Ps) w) : bigA (a :: b :: c :: y :: x :: Ps) w := by
  obtain ⟨v, h1, h2⟩ := h
  have e : ∀ u : Nat → va_W, (List.range (Ps.length + 5)).flatMap u = u 0 ++ (u 1 ++ (u 2 ++ (u 3 ++ (u 4 ++ (List.range Ps.length).flatMap (fun i => u (i + 5)))))) := fun u => by
    rw [show Ps.length + 5 = Ps.length + 4 + 1 from rfl, List.range_succ_eq_map, List.flatMap_cons, List.flatMap_map, List.range_succ_eq_map, List.flatMap_cons, List.flatMap_map, List.range_succ_eq_map, List.flatMap_cons, List.flatMap_map, List.range_succ_eq_map, List.flatMap_cons, List.flatMap_map, List.range_succ_eq_map, List.flatMap_cons, List.flatMap_map]
  refine ⟨fun i => if i = 3 then v 4 else if i = 4 then v 3 else v i, fun i P hi => ?_, ?_⟩
  · rcases i with _ | _ | _ | _ | _ | i
    · exact h1 0 P hi
    · exact h1 1 P hi
    · exact h1 2 P hi
    · exact h1 4 P hi
    · exact h1 3 P hi
    · have h3 := h1 (i + 5) P hi
      simp only [show ¬ i + 1 + 1 + 1 + 1 + 1 = 3 by omega, show ¬ i + 1 + 1 + 1 + 1 + 1 = 4 by omega, if_false]
      exact h3
  · have l1 : (a :: b :: c :: x :: y :: Ps).length = Ps.length + 5 := rfl
    have l2 : (a :: b :: c :: y :: x :: Ps).length = Ps.length + 5 := rfl
    rw [l1, e] at h2
    rw [l2, e]
    refine h2.trans (List.Perm.append_left _ (List.Perm.append_left _ (List.Perm.append_left _ ?_)))
    have r : (fun i => (fun i => if i = 3 then v 4 else if i = 4 then v 3 else v i) (i + 5)) = fun i => v (i + 5) := by
      funext i
      simp only [show ¬ i + 5 = 3 by omega, show ¬ i + 5 = 4 by omega, if_false]
    rw [r]
    rw [← List.append_assoc, ← List.append_assoc]
    exact List.Perm.append_right _ List.perm_append_comm
theorem du_un {G : EVT} {A : Nat → Prop} {Ps Pr : List Asn} {H : Heap} {Z : List (Nat × List Nat)} {d st k : Nat} {g : GS} (t : Nat) (ht : t < 2) (h : Sep G.1 clA A Ps H) (hk : Ps[k]? = some (duelA G Z d st g)) (isR : List Nat) (hnR : va_nd isR = true) (hR : isR.map (fun i => Ps[i]?) = Pr.map some) (hdis : k ∉ isR) :
    ∃ (tl ll to tm ox l0 l1 l2 : Nat) (fT fL : Nat → Option Nat) (tv : Nat) (sp ps ov : Bool), (duOk g tv sp ps ov ∧ fT t = some tm ∧ fT (1 - t) = some ox ∧ fL 0 = some l0 ∧ fL 1 = some l1 ∧ fL 2 = some l2) ∧ Sep G.1 clA A (Pr ++ duL G Z d st tl ll to tm ox l0 l1 l2 fT fL g t tv sp ps ov) H := by
  obtain ⟨w, ⟨tl, ll, to, t0, t1, l0, l1, l2, fT, fL, tv, sp, ps, ov, ⟨h1, h2, h3, h4⟩, hb⟩, hQ⟩ := h.atk hk
  have hkl := (List.getElem?_eq_some_iff.mp hk).1
  have hR' : ∀ Q : Asn, isR.map (fun i => (Ps.set k Q)[i]?) = Pr.map some := fun Q => by
    rw [← hR]
    apply List.map_congr_left
    intro i hi
    rw [List.getElem?_set_ne]
    intro e
    subst e
    exact hdis hi
  rcases (show t = 0 ∨ t = 1 by omega) with rfl | rfl
  · exact ⟨tl, ll, to, t0, t1, l0, l1, l2, fT, fL, tv, sp, ps, ov, ⟨h1, h2, h3, h4⟩, (hQ _ hb).unpk (List.getElem?_set_self hkl) isR hnR (hR' _) hdis⟩
  · have hb2 : bigA (duL G Z d st tl ll to t1 t0 l0 l1 l2 fT fL g 1 tv sp ps ov) w := big_swap hb
    exact ⟨tl, ll, to, t1, t0, l0, l1, l2, fT, fL, tv, sp, ps, ov, ⟨h1, h3, h2, h4⟩, (hQ _ hb2).unpk (List.getElem?_set_self hkl) isR hnR (hR' _) hdis⟩
theorem du_mk {G : EVT} {Z : List (Nat × List Nat)} {d st tl ll to tm ox l0 l1 l2 : Nat} {fT fL : Nat → Option Nat} {g : GS} {t tv : Nat} {sp ps ov : Bool} {w : va_W} (ht : t < 2) (h1 : duOk g tv sp ps ov) (h2 : fT t = some tm) (h3 : fT (1 - t) = some ox) (h4 : fL 0 = some l0 ∧ fL 1 = some l1 ∧ fL 2 = some l2) (h : bigA (duL G Z d st tl ll to tm ox l0 l1 l2 fT fL g t tv sp ps ov) w) : duelA G Z d st g w := by
  rcases (show t = 0 ∨ t = 1 by omega) with rfl | rfl
  · exact ⟨tl, ll, to, tm, ox, l0, l1, l2, fT, fL, tv, sp, ps, ov, ⟨h1, h2, h3, h4⟩, h⟩
  · exact ⟨tl, ll, to, ox, tm, l0, l1, l2, fT, fL, tv, sp, ps, ov, ⟨h1, h3, h2, h4⟩, big_swap h⟩
theorem du_obj {G : EVT} {H : Heap} {Z : List (Nat × List Nat)} {d st : Nat} {g : GS} (h : Hol G.1 clA (duelA G Z d st g) H) : ∃ fs, va_P G.1 clA [(d, .inr (4, fs))] H := by
  obtain ⟨w, ⟨tl, ll, to, t0, t1, l0, l1, l2, fT, fL, tv, sp, ps, ov, -, hb⟩, hP⟩ := h
  exact ⟨_, (big_at (i := 0) hb hP rfl).pts⟩
theorem tlrG_obj {G : EVT} {H : Heap} {Z : List (Nat × List Nat)} {q t : Nat} {g : GS} (h : Hol G.1 clA (tlrG G Z q g t) H) : ∃ fs, va_P G.1 clA [(q, .inr (6, fs))] H := tel_obj h
theorem big_mono {Ps Qs : List Asn} {w : va_W} (h : bigA Ps w) (hl : Ps.length = Qs.length) (hi : ∀ (i : Nat) (P Q : Asn), Ps[i]? = some P → Qs[i]? = some Q → ∀ w, P w → Q w) : bigA Qs w := by
  obtain ⟨v, h1, h2⟩ := h
  refine ⟨v, fun i Q hQ => ?_, by rw [← hl]; exact h2⟩
  have hlt : i < Ps.length := by rw [hl]; exact (List.getElem?_eq_some_iff.mp hQ).1
  exact hi i _ Q (List.getElem?_eq_getElem hlt) hQ _ (h1 i _ (List.getElem?_eq_getElem hlt))
theorem du_mono {G : EVT} {Z Z2 : List (Nat × List Nat)} {d st : Nat} {g : GS} (hz : ∀ p ∈ Z, p ∈ Z2) {w : va_W} (h : duelA G Z d st g w) : duelA G Z2 d st g w := by
  obtain ⟨tl, ll, to, t0, t1, l0, l1, l2, fT, fL, tv, sp, ps, ov, hc, hb⟩ := h
  refine ⟨tl, ll, to, t0, t1, l0, l1, l2, fT, fL, tv, sp, ps, ov, hc, big_mono hb rfl (fun i P Q hP hQ w hw => ?_)⟩
  unfold duL at hP hQ
  rcases i with _ | _ | _ | _ | _ | _ | _ | _ | _ | i
  all_goals simp only [List.getElem?_cons_zero, List.getElem?_cons_succ, Option.some.injEq] at hP hQ
  all_goals try (subst hP; subst hQ)
  · exact hw
  · exact hw
  · exact hw
  · exact tel_mono hz hw
  · exact tel_mono hz hw
  · exact hw
  · exact hw
  · exact hw
  · exact sto_mono hz hw
  · simp at hP
/-- the view from the one whose turn it is -/
theorem du_um {G : EVT} {A : Nat → Prop} {Ps Pr : List Asn} {H : Heap} {Z : List (Nat × List Nat)} {d st k : Nat} {g : GS} (h : Sep G.1 clA A Ps H) (hk : Ps[k]? = some (duelA G Z d st g)) (isR : List Nat) (hnR : va_nd isR = true) (hR : isR.map (fun i => Ps[i]?) = Pr.map some) (hdis : k ∉ isR) :
    ∃ (tl ll to tm ox l0 l1 l2 : Nat) (fT fL : Nat → Option Nat) (tv : Nat) (sp ps ov : Bool), (duOk g tv sp ps ov ∧ fT tv = some tm ∧ fT (1 - tv) = some ox ∧ fL 0 = some l0 ∧ fL 1 = some l1 ∧ fL 2 = some l2) ∧ Sep G.1 clA A (Pr ++ duL G Z d st tl ll to tm ox l0 l1 l2 fT fL g tv tv sp ps ov) H := by
  obtain ⟨w, ⟨tl, ll, to, t0, t1, l0, l1, l2, fT, fL, tv, sp, ps, ov, ⟨h1, h2, h3, h4⟩, hb⟩, hQ⟩ := h.atk hk
  have hkl := (List.getElem?_eq_some_iff.mp hk).1
  have hR' : ∀ Q : Asn, isR.map (fun i => (Ps.set k Q)[i]?) = Pr.map some := fun Q => by
    rw [← hR]
    apply List.map_congr_left
    intro i hi
    rw [List.getElem?_set_ne]
    intro e
    subst e
    exact hdis hi
  rcases (show tv = 0 ∨ tv = 1 by have := h1.1; omega) with rfl | rfl
  · exact ⟨tl, ll, to, t0, t1, l0, l1, l2, fT, fL, 0, sp, ps, ov, ⟨h1, h2, h3, h4⟩, (hQ _ hb).unpk (List.getElem?_set_self hkl) isR hnR (hR' _) hdis⟩
  · have hb2 : bigA (duL G Z d st tl ll to t1 t0 l0 l1 l2 fT fL g 1 1 sp ps ov) w := big_swap hb
    exact ⟨tl, ll, to, t1, t0, l0, l1, l2, fT, fL, 1, sp, ps, ov, ⟨h1, h3, h2, h4⟩, (hQ _ hb2).unpk (List.getElem?_set_self hkl) isR hnR (hR' _) hdis⟩
theorem mkS_t {P : Nat → Bool} {w : Nat} (h : P w = true) : mkS P w ||| nI 1 <<< (nI w &&& 31) = mkS P (w + 1) := by rw [mkS, if_pos h]
theorem mkS_f {P : Nat → Bool} {w : Nat} (h : P w = false) : mkS P w ||| nI 0 = mkS P (w + 1) := by rw [mkS, if_neg (by rw [h]; decide)]
theorem nb_t {b : Bool} (h : (!b) = true) : b = false := by cases b; rfl; cases h
theorem nb_f {b : Bool} (h : (!b) = false) : b = true := by cases b; cases h; rfl
theorem flat_s {lg : List (List Nat)} {k : Nat} (h : k < lg.length) : (lg.take (k + 1)).flatten = (lg.take k).flatten ++ lg.getD k [] := by
  rw [List.take_succ_eq_append_getElem h, List.flatten_append, List.getD_eq_getElem?_getD, List.getElem?_eq_getElem h]
  simp
/-- what the listeners give for new words, the first l of them -/
def ptF (g : GS) (fr : List Nat) : Nat → Nat
  | 0 => 0
  | l + 1 => ptF g fr l + gvN (!gThere g l) (g.1 (11 + l)) (fun w => decide (w ∈ fr))
/-- what a word brings, by the first l listeners -/
def wrF (g : GS) (rem : List Nat) (w : Nat) : Nat → Nat
  | 0 => 0
  | l + 1 => wrF g rem w l + (if w ∈ rem then 0 else gvN (!gThere g l) (g.1 (11 + l)) (fun v => decide (v = w)))
theorem ptF_le (g : GS) (fr : List Nat) : ∀ l, ptF g fr l ≤ 18 * l
  | 0 => Nat.le_refl _
  | l + 1 => by have := ptF_le g fr l; have := gvN_le (!gThere g l) (g.1 (11 + l)) (fun w => decide (w ∈ fr)); rw [ptF]; omega
theorem one_mkS {w : Nat} (hw : w < 18) : nI 1 <<< (nI w &&& 31) = mkS (fun v => decide (v = w)) 18 := by
  apply bitI_ext
  intro k hk
  rw [bitI_1 (by omega) hk, bitI_mkS _ (by decide) hk]
  by_cases e : k = w
  · subst e; simp [hw]
  · simp [e]
theorem cntB_0 {P : Nat → Bool} {n : Nat} (h : ∀ w, w < n → P w = false) : cntB P n = 0 := by
  induction n with
  | zero => rfl
  | succ n ih => rw [cntB, ih (fun w hw => h w (by omega)), h n (by omega)]; rfl
theorem cntB_congr {P Q : Nat → Bool} {n : Nat} (h : ∀ w, w < n → P w = Q w) : cntB P n = cntB Q n := by
  induction n with
  | zero => rfl
  | succ n ih => rw [cntB, cntB, ih (fun w hw => h w (by omega)), h n (by omega)]
theorem cntB_one {Q : Nat → Bool} {w n : Nat} : cntB (fun v => Q v && decide (v = w)) n = if w < n ∧ Q w = true then 1 else 0 := by
  induction n with
  | zero => simp [cntB]
  | succ n ih =>
    rw [cntB, ih]
    by_cases e : n = w
    · subst e
      simp
    · have : (w < n + 1) = (w < n) := by apply propext; omega
      simp [e, this]
theorem cntB_or {P Q : Nat → Bool} {n : Nat} (h : ∀ w, P w = true → Q w = true → False) : cntB (fun w => P w || Q w) n = cntB P n + cntB Q n := by
  induction n with
  | zero => rfl
  | succ n ih =>
    rw [cntB, cntB, cntB, ih]
    cases hP : P n <;> cases hQ : Q n <;> simp
    · omega
    · omega
    · exact (h n hP hQ).elim
theorem cnt_list {Q : Nat → Bool} : ∀ {s : List Nat}, s.Nodup → (∀ w ∈ s, w < 18) → cntB (fun w => Q w && decide (w ∈ s)) 18 = (s.map (fun w => if Q w then 1 else 0)).sum
  | [], _, _ => by rw [cntB_0 (fun w _ => by simp)]; rfl
  | a :: s, hn, hs => by
    have hn2 := List.nodup_cons.mp hn
    have e : cntB (fun w => Q w && decide (w ∈ a :: s)) 18 = cntB (fun w => (Q w && decide (w = a)) || (Q w && decide (w ∈ s))) 18 := cntB_congr fun w _ => by
      cases Q w <;> by_cases h : w = a <;> simp [h]
    rw [e, cntB_or, cntB_one, cnt_list hn2.2 (fun w hw => hs w (List.mem_cons_of_mem _ hw)), List.map_cons, List.sum_cons]
    · have := hs a List.mem_cons_self
      simp [this]
    · intro w h1 h2
      simp at h1 h2
      exact hn2.1 (by rw [← h1.2]; exact h2.2)
theorem wr_gain {g : GS} {w : Nat} (hw : w < 18) : wrF g (gRem g) w 3 = gain g w := by
  have e : ∀ l, (if w ∈ gRem g then 0 else gvN (!gThere g l) (g.1 (11 + l)) (fun v => decide (v = w))) = gainW g w l := fun l => by
    unfold gainW gvN
    by_cases h : w ∈ gRem g
    · simp [h]
    · rw [if_neg h, cntB_one]
      cases h2 : gThere g l <;> simp [h, hw]
  have e2 : ∀ l, wrF g (gRem g) w l = gainN g w l := fun l => by
    induction l with
    | zero => rfl
    | succ l ih => rw [wrF, gainN, ih, e]
  exact e2 3
theorem hear_cnt {g : GS} {l : Nat} {s : List Nat} (hn : s.Nodup) (hs : ∀ w ∈ s, w < 18) : cntB (fun w => bitI (g.1 (11 + l)) w && decide (w ∈ s.filter (fun w => !decide (w ∈ gRem g)))) 18 = hearN g l s := by
  have e : cntB (fun w => bitI (g.1 (11 + l)) w && decide (w ∈ s.filter (fun w => !decide (w ∈ gRem g)))) 18 = cntB (fun w => (bitI (g.1 (11 + l)) w && !decide (w ∈ gRem g)) && decide (w ∈ s)) 18 := cntB_congr fun w _ => by
    cases bitI (g.1 (11 + l)) w <;> by_cases h1 : w ∈ s <;> by_cases h2 : w ∈ gRem g <;> simp [h1, h2]
  rw [e, cnt_list hn hs]
  unfold hearN
  congr 1
  apply List.map_congr_left
  intro w _
  unfold hearW
  by_cases h2 : w ∈ gRem g <;> simp [h2]
theorem pt_pts {g : GS} {s : List Nat} (hn : s.Nodup) (hs : ∀ w ∈ s, w < 18) : ∀ l, ptF g (s.filter (fun w => !decide (w ∈ gRem g))) l = gPts g s l
  | 0 => rfl
  | l + 1 => by
    rw [ptF, gPts, pt_pts hn hs l]
    congr 1
    unfold gvN
    rw [hear_cnt hn hs]
    cases gThere g l <;> simp
theorem wrF_t {g : GS} {rem : List Nat} {w l : Nat} (h : w ∈ rem) : wrF g rem w l + 0 = wrF g rem w (l + 1) := by rw [wrF, if_pos h]
theorem wrF_f {g : GS} {rem : List Nat} {w l : Nat} (h : w ∉ rem) : wrF g rem w l + gvN (!gThere g l) (g.1 (11 + l)) (fun v => decide (v = w)) = wrF g rem w (l + 1) := by rw [wrF, if_neg h]
