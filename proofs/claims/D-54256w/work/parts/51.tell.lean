/-! SENTENCES THAT STAND, TELLERS, THE STORE as resources -/
set_option maxRecDepth 100000
def senOk (C : List Nat) : Prop := ∀ x ∈ C, 97 ≤ x ∧ x < 115
def senA (G : EVT) (q : Nat) (C : List Nat) : Asn := fun w => ∃ (ch : Nat) (f : Nat → Int32), (Pre f C ∧ C.length ≤ 20 ∧ ∀ x ∈ C, x < 256) ∧ bigA [pts q (.inr (2, [.ref ch, .int (nI C.length)])), pts ch (.inl (G.2.1 1, 20, .inl f))] w
/-- sentences that nobody writes any more -/
def frozA (G : EVT) (Z : List (Nat × List Nat)) : Asn := bigA (Z.map (fun p => senA G p.1 p.2))
theorem big_at {D : va_G} {cl : List vw_C} {H : Heap} {Ps : List Asn} {P : Asn} {w : va_W} {i : Nat} (h : bigA Ps w) (hP : va_P D cl w H) (hi : Ps[i]? = some P) : Hol D cl P H := by
  obtain ⟨v, h1, h2⟩ := h
  refine ⟨v i, h1 i P hi, ?_⟩
  rw [sp_memP] at hP ⊢
  intro x hx
  exact hP x (h2.mem_iff.mpr (List.mem_flatMap.mpr ⟨i, List.mem_range.mpr (List.getElem?_eq_some_iff.mp hi).1, hx⟩))
theorem big_flat {P : Asn} {Ps : List Asn} {w : va_W} (h : bigA [P, bigA Ps] w) : bigA (P :: Ps) w := by
  obtain ⟨v, h1, h2⟩ := h
  have e0 : P (v 0) := h1 0 _ rfl
  obtain ⟨u, g1, g2⟩ := h1 1 _ rfl
  refine ⟨fun i => match i with | 0 => v 0 | i + 1 => u i, fun i Q hi => ?_, ?_⟩
  · cases i with
    | zero =>
      simp at hi
      subst hi
      exact e0
    | succ i =>
      simp at hi
      exact g1 i Q hi
  · have e1 : (List.range (P :: Ps).length).flatMap (fun i => match i with | 0 => v 0 | i + 1 => u i) = v 0 ++ (List.range Ps.length).flatMap u := by
      rw [List.length_cons, List.range_succ_eq_map, List.flatMap_cons, List.flatMap_map]
    have e2 : (List.range [P, bigA Ps].length).flatMap v = v 0 ++ v 1 := by
      show (List.range 2).flatMap v = _
      rw [List.range_succ_eq_map, List.flatMap_cons, List.flatMap_map]
      simp
    rw [e2] at h2
    rw [e1]
    exact h2.trans (List.Perm.append_left _ g2)
theorem froz_add {G : EVT} {Z : List (Nat × List Nat)} {q : Nat} {C : List Nat} {w : va_W} (h : bigA [senA G q C, frozA G Z] w) : frozA G ((q, C) :: Z) w := big_flat h
theorem sen_ro {G : EVT} {H : Heap} {q : Nat} {C : List Nat} (h : Hol G.1 clA (senA G q C) H) : ∃ (ch : Nat) (f : Nat → Int32), (Pre f C ∧ C.length ≤ 20 ∧ ∀ x ∈ C, x < 256) ∧ va_P G.1 clA [(q, .inr (2, [.ref ch, .int (nI C.length)])), (ch, .inl (G.2.1 1, 20, .inl f))] H := by
  obtain ⟨w, ⟨ch, f, h1, h2⟩, hP⟩ := h
  exact ⟨ch, f, h1, big2 h2 hP⟩
theorem froz_hol {G : EVT} {H : Heap} {Z : List (Nat × List Nat)} {q : Nat} {C : List Nat} (h : Hol G.1 clA (frozA G Z) H) (hm : (q, C) ∈ Z) : Hol G.1 clA (senA G q C) H := by
  obtain ⟨w, hw, hP⟩ := h
  obtain ⟨i, hi⟩ := List.getElem?_of_mem hm
  exact big_at (i := i) hw hP (by rw [List.getElem?_map, hi]; rfl)
theorem froz_get {G : EVT} {H : Heap} {Z : List (Nat × List Nat)} {q : Nat} {C : List Nat} (h : Hol G.1 clA (frozA G Z) H) (hm : (q, C) ∈ Z) : ∃ (ch : Nat) (f : Nat → Int32), (Pre f C ∧ C.length ≤ 20 ∧ ∀ x ∈ C, x < 256) ∧ va_P G.1 clA [(q, .inr (2, [.ref ch, .int (nI C.length)])), (ch, .inl (G.2.1 1, 20, .inl f))] H := sen_ro (froz_hol h hm)
theorem froz_el {G : EVT} {H : Heap} {Z : List (Nat × List Nat)} {q : Nat} {C : List Nat} (h : Hol G.1 clA (frozA G Z) H) (hm : (q, C) ∈ Z) : elR G "TaleDuel$Sentence" q H := by
  obtain ⟨ch, f, -, hP⟩ := froz_get h hm
  exact Or.inr ⟨Or.inl rfl, 2, _, TX3, 2, rfl, hP.sub [0] rfl⟩
/-- a teller's latest sentence -/
def latOk (Z : List (Nat × List Nat)) (lr : Option Nat) (lt : List Nat) : Prop := (lr = none ∧ lt = []) ∨ ∃ r C, lr = some r ∧ (r, C) ∈ Z ∧ senOk C ∧ lt = tW C
def box (G : EVT) (l : List Nat) : List Nat := l.map (fun w => G.2.2.1 (w + 128))
theorem box_len (G : EVT) (l : List Nat) : (box G l).length = l.length := List.length_map _
theorem box_getD {G : EVT} {l : List Nat} {k : Nat} (h : k < l.length) : (box G l).getD k 0 = G.2.2.1 (l.getD k 0 + 128) := by
  unfold box
  rw [List.getD_eq_getElem?_getD, List.getD_eq_getElem?_getD, List.getElem?_map, List.getElem?_eq_getElem h]
  rfl
theorem box_el {G : EVT} {l : List Nat} (h : ∀ w ∈ l, w < 18) (H : Heap) : ∀ y ∈ box G l, elR G "java/lang/Integer" y H := by
  intro y hy
  obtain ⟨w, hw, rfl⟩ := List.mem_map.mp hy
  exact Or.inl ⟨rfl, w + 128, by have := h w hw; omega, rfl⟩
def tlrA (G : EVT) (Z : List (Nat × List Nat)) (q : Nat) (sc so : Int32) (lt bl : List Nat) : Asn := fun w => ∃ (fl : Nat) (m : Int32) (lr : Option Nat), latOk Z lr lt ∧ bigA [pts q (.inr (6, [.int sc, .int so, va_rf lr, .ref fl])), listA G fl m (box G bl)] w
theorem tel_un {G : EVT} {A : Nat → Prop} {Ps Pr : List Asn} {H : Heap} {Z : List (Nat × List Nat)} {q k : Nat} {sc so : Int32} {lt bl : List Nat} (h : Sep G.1 clA A Ps H) (hk : Ps[k]? = some (tlrA G Z q sc so lt bl)) (isR : List Nat) (hnR : va_nd isR = true) (hR : isR.map (fun i => Ps[i]?) = Pr.map some) (hdis : k ∉ isR) :
    ∃ (fl : Nat) (m : Int32) (lr : Option Nat), latOk Z lr lt ∧ Sep G.1 clA A (Pr ++ [pts q (.inr (6, [.int sc, .int so, va_rf lr, .ref fl])), listA G fl m (box G bl)]) H := by
  obtain ⟨w, ⟨fl, m, lr, h1, h2⟩, hQ⟩ := h.atk hk
  have hkl := (List.getElem?_eq_some_iff.mp hk).1
  refine ⟨fl, m, lr, h1, (hQ _ h2).unpk (List.getElem?_set_self hkl) isR hnR ?_ hdis⟩
  rw [← hR]
  apply List.map_congr_left
  intro i hi
  rw [List.getElem?_set_ne]
  intro e
  subst e
  exact hdis hi
theorem tel_mk {G : EVT} {Z : List (Nat × List Nat)} {q fl : Nat} {m : Int32} {lr : Option Nat} {sc so : Int32} {lt bl : List Nat} {w : va_W} (h1 : latOk Z lr lt) (h2 : bigA [pts q (.inr (6, [.int sc, .int so, va_rf lr, .ref fl])), listA G fl m (box G bl)] w) : tlrA G Z q sc so lt bl w := ⟨fl, m, lr, h1, h2⟩
theorem latOk.mono {Z Z2 : List (Nat × List Nat)} {lr : Option Nat} {lt : List Nat} (h : latOk Z lr lt) (hz : ∀ p ∈ Z, p ∈ Z2) : latOk Z2 lr lt := by
  rcases h with h | ⟨r, C, h1, h2, h3⟩
  · exact Or.inl h
  · exact Or.inr ⟨r, C, h1, hz _ h2, h3⟩
theorem tel_mono {G : EVT} {Z Z2 : List (Nat × List Nat)} {q : Nat} {sc so : Int32} {lt bl : List Nat} (hz : ∀ p ∈ Z, p ∈ Z2) {w : va_W} (h : tlrA G Z q sc so lt bl w) : tlrA G Z2 q sc so lt bl w := by
  obtain ⟨fl, m, lr, h1, h2⟩ := h
  exact ⟨fl, m, lr, h1.mono hz, h2⟩
/-- whatever it holds: the teller's object -/
theorem tel_obj {G : EVT} {H : Heap} {Z : List (Nat × List Nat)} {q : Nat} {sc so : Int32} {lt bl : List Nat} (h : Hol G.1 clA (tlrA G Z q sc so lt bl) H) : ∃ fs, va_P G.1 clA [(q, .inr (6, fs))] H := by
  obtain ⟨w, ⟨fl, m, lr, -, h2⟩, hP⟩ := h
  exact ⟨_, (big_at (i := 0) h2 hP rfl).pts⟩
/-- the log's rows of references -/
def logOk (Z : List (Nat × List Nat)) (rs : List Nat) (lg : List (List Nat)) : Prop := rs.length = lg.length ∧ ∀ k, k < rs.length → ∃ C, (rs.getD k 0, C) ∈ Z ∧ senOk C ∧ lg.getD k [] = tW C
def stoA (G : EVT) (Z : List (Nat × List Nat)) (q : Nat) (lg : List (List Nat)) : Asn := fun w => ∃ (kl : Nat) (m : Int32) (rs : List Nat), logOk Z rs lg ∧ bigA [pts q (.inr (5, [.ref kl, .int (nI 6)])), listA G kl m rs] w
theorem sto_un {G : EVT} {A : Nat → Prop} {Ps Pr : List Asn} {H : Heap} {Z : List (Nat × List Nat)} {q k : Nat} {lg : List (List Nat)} (h : Sep G.1 clA A Ps H) (hk : Ps[k]? = some (stoA G Z q lg)) (isR : List Nat) (hnR : va_nd isR = true) (hR : isR.map (fun i => Ps[i]?) = Pr.map some) (hdis : k ∉ isR) :
    ∃ (kl : Nat) (m : Int32) (rs : List Nat), logOk Z rs lg ∧ Sep G.1 clA A (Pr ++ [pts q (.inr (5, [.ref kl, .int (nI 6)])), listA G kl m rs]) H := by
  obtain ⟨w, ⟨kl, m, rs, h1, h2⟩, hQ⟩ := h.atk hk
  have hkl := (List.getElem?_eq_some_iff.mp hk).1
  refine ⟨kl, m, rs, h1, (hQ _ h2).unpk (List.getElem?_set_self hkl) isR hnR ?_ hdis⟩
  rw [← hR]
  apply List.map_congr_left
  intro i hi
  rw [List.getElem?_set_ne]
  intro e
  subst e
  exact hdis hi
theorem sto_mk {G : EVT} {Z : List (Nat × List Nat)} {q kl : Nat} {m : Int32} {rs : List Nat} {lg : List (List Nat)} {w : va_W} (h1 : logOk Z rs lg) (h2 : bigA [pts q (.inr (5, [.ref kl, .int (nI 6)])), listA G kl m rs] w) : stoA G Z q lg w := ⟨kl, m, rs, h1, h2⟩
theorem sto_mono {G : EVT} {Z Z2 : List (Nat × List Nat)} {q : Nat} {lg : List (List Nat)} (hz : ∀ p ∈ Z, p ∈ Z2) {w : va_W} (h : stoA G Z q lg w) : stoA G Z2 q lg w := by
  obtain ⟨kl, m, rs, ⟨h0, h1⟩, h2⟩ := h
  refine ⟨kl, m, rs, ⟨h0, fun k hk => ?_⟩, h2⟩
  obtain ⟨C, h3, h4⟩ := h1 k hk
  exact ⟨C, hz _ h3, h4⟩
theorem sto_ro {G : EVT} {H : Heap} {Z : List (Nat × List Nat)} {q : Nat} {lg : List (List Nat)} (h : Hol G.1 clA (stoA G Z q lg) H) : ∃ (kl : Nat) (m : Int32) (rs : List Nat), logOk Z rs lg ∧ va_P G.1 clA [(q, .inr (5, [.ref kl, .int (nI 6)]))] H ∧ Hol G.1 clA (listA G kl m rs) H := by
  obtain ⟨w, ⟨kl, m, rs, h1, h2⟩, hP⟩ := h
  exact ⟨kl, m, rs, h1, (big_at (i := 0) h2 hP rfl).pts, big_at (i := 1) h2 hP rfl⟩
theorem sto_obj {G : EVT} {H : Heap} {Z : List (Nat × List Nat)} {q : Nat} {lg : List (List Nat)} (h : Hol G.1 clA (stoA G Z q lg) H) : ∃ fs, va_P G.1 clA [(q, .inr (5, fs))] H := by
  obtain ⟨kl, m, rs, -, h2, -⟩ := sto_ro h
  exact ⟨_, h2⟩
theorem logOk.cons {Z : List (Nat × List Nat)} {rs : List Nat} {lg : List (List Nat)} {r : Nat} {C : List Nat} (h : logOk Z rs lg) (hm : (r, C) ∈ Z) (hs : senOk C) : logOk Z (r :: rs) (tW C :: lg) := by
  refine ⟨by rw [List.length_cons, List.length_cons, h.1], fun k hk => ?_⟩
  cases k with
  | zero => exact ⟨C, hm, hs, rfl⟩
  | succ k => exact h.2 k (by simpa using hk)
theorem logOk.cut {Z : List (Nat × List Nat)} {rs : List Nat} {lg : List (List Nat)} (h : logOk Z rs lg) (hl : lg.length = 7) : logOk Z (rs.eraseIdx 6) (lg.take 6) := by
  have e : rs.eraseIdx 6 = rs.take 6 := by
    rw [List.eraseIdx_eq_take_drop_succ, List.drop_eq_nil_of_le (by have := h.1; omega), List.append_nil]
  rw [e]
  refine ⟨by rw [List.length_take, List.length_take, h.1], fun k hk => ?_⟩
  rw [List.length_take] at hk
  obtain ⟨C, h1, h2, h3⟩ := h.2 k (by omega)
  have e1 : (rs.take 6).getD k 0 = rs.getD k 0 := by
    rw [List.getD_eq_getElem?_getD, List.getD_eq_getElem?_getD, List.getElem?_take, if_pos (by omega)]
  have e2 : (lg.take 6).getD k [] = lg.getD k [] := by
    rw [List.getD_eq_getElem?_getD, List.getD_eq_getElem?_getD, List.getElem?_take, if_pos (by omega)]
  exact ⟨C, by rw [e1]; exact h1, h2, by rw [e2]; exact h3⟩
theorem logOk.el {G : EVT} {H : Heap} {Z : List (Nat × List Nat)} {rs : List Nat} {lg : List (List Nat)} (h : logOk Z rs lg) (hF : Hol G.1 clA (frozA G Z) H) : ∀ y ∈ rs, elR G "TaleDuel$Sentence" y H := by
  intro y hy
  obtain ⟨k, hk, rfl⟩ := mem_getD hy
  obtain ⟨C, h1, -⟩ := h.2 k hk
  exact froz_el hF h1
theorem lat_none {Z : List (Nat × List Nat)} {lt : List Nat} (h : latOk Z none lt) : lt = [] := by
  rcases h with ⟨-, h⟩ | ⟨r, C, h, -⟩
  · exact h
  · cases h
theorem lat_some {Z : List (Nat × List Nat)} {r : Nat} {lt : List Nat} (h : latOk Z (some r) lt) : ∃ C, (r, C) ∈ Z ∧ senOk C ∧ lt = tW C := by
  rcases h with ⟨h, -⟩ | ⟨r2, C, h, h2⟩
  · cases h
  · cases h
    exact ⟨C, h2⟩
theorem box_app (G : EVT) (l : List Nat) (w : Nat) : box G l ++ [G.2.2.1 (w + 128)] = box G (l ++ [w]) := by
  unfold box
  simp
theorem take_s {l : List Nat} {k : Nat} (h : k < l.length) : l.take (k + 1) = l.take k ++ [l.getD k 0] := by
  rw [List.take_succ_eq_append_getElem h, List.getD_eq_getElem?_getD, List.getElem?_eq_getElem h]
  rfl
