/-! SEPARATION over the kit's worlds: a resource (Asn) says what a list of cells is; Sep: resources side by side, apart, all in A -/
set_option maxRecDepth 100000
abbrev Asn : Type := va_W → Prop
/-- one cell -/
def pts (q : Nat) (e : va_E) : Asn := fun ws => ws = [(q, e)]
/-- resources side by side, as one -/
def bigA (Ps : List Asn) : Asn := fun ws => ∃ w : Nat → va_W, (∀ (i : Nat) (P : Asn), Ps[i]? = some P → P (w i)) ∧ ws.Perm ((List.range Ps.length).flatMap w)
/-- what a heap holds of a resource, for reading -/
def Hol (D : va_G) (cl : List vw_C) (P : Asn) (H : Heap) : Prop := ∃ ws, P ws ∧ va_P D cl ws H
def Sep (D : va_G) (cl : List vw_C) (A : Nat → Prop) (Ps : List Asn) (H : Heap) : Prop :=
  ∃ w : Nat → va_W, (∀ (i : Nat) (P : Asn), Ps[i]? = some P → P (w i)) ∧ (∀ i, i < Ps.length → (∀ q ∈ w i, va_at D cl q H ∧ A q.1) ∧ ((w i).map Prod.fst).Nodup) ∧ ∀ i j, i < Ps.length → j < Ps.length → i ≠ j → ∀ p ∈ w i, ∀ q ∈ w j, p.1 ≠ q.1
/-- a callee's cells: those of F, and the new ones -/
def Fz (F : Nat → Prop) (sz : Nat) : Nat → Prop := fun q => F q ∨ sz ≤ q
theorem Fz.new {F : Nat → Prop} {sz q : Nat} (h : sz ≤ q) : Fz F sz q := Or.inr h
section SEP
variable {D : va_G} {cl : List vw_C} {A : Nat → Prop} {Ps : List Asn} {H : Heap}
theorem sp_memP {ws : va_W} : va_P D cl ws H ↔ ∀ q ∈ ws, va_at D cl q H :=
  ⟨fun h q hq => by obtain ⟨i, hi⟩ := List.getElem?_of_mem hq; exact h i q hi, fun h k q hk => h q (List.mem_of_getElem? hk)⟩
theorem sp_memD {ws : va_W} : va_D A ws ↔ (ws.map Prod.fst).Nodup ∧ ∀ q ∈ ws, A q.1 := by
  constructor
  · intro h
    refine ⟨?_, fun q hq => ?_⟩
    · rw [List.Nodup, List.pairwise_iff_getElem]
      intro i j hi hj hij he
      have hi' : i < ws.length := by simpa using hi
      have hj' : j < ws.length := by simpa using hj
      have := h.1 i j ws[i] ws[j] (List.getElem?_eq_getElem hi') (List.getElem?_eq_getElem hj') (by simpa using he)
      omega
    · obtain ⟨i, hi⟩ := List.getElem?_of_mem hq
      exact h.2 i q hi
  · rintro ⟨h1, h2⟩
    refine ⟨fun i j p q hi hj he => ?_, fun k q hk => h2 q (List.mem_of_getElem? hk)⟩
    rw [List.Nodup, List.pairwise_iff_getElem] at h1
    obtain ⟨li, ei⟩ := List.getElem?_eq_some_iff.mp hi
    obtain ⟨lj, ej⟩ := List.getElem?_eq_some_iff.mp hj
    rcases Nat.lt_trichotomy i j with h | h | h
    · exact absurd (by rw [List.getElem_map, List.getElem_map, ei, ej]; exact he) (h1 i j (by simpa using li) (by simpa using lj) h)
    · exact h
    · exact absurd (by rw [List.getElem_map, List.getElem_map, ei, ej]; exact he.symm) (h1 j i (by simpa using lj) (by simpa using li) h)
theorem sp_nodup {ws : va_W} (h : (ws.map Prod.fst).Nodup) {p q : Nat × va_E} (hp : p ∈ ws) (hq : q ∈ ws) (e : p.1 = q.1) : p = q := by
  obtain ⟨i, hi⟩ := List.getElem?_of_mem hp
  obtain ⟨j, hj⟩ := List.getElem?_of_mem hq
  have h1 := (sp_memD (A := fun _ => True)).mpr ⟨h, fun _ _ => trivial⟩
  have := h1.1 i j p q hi hj e
  subst this
  exact Option.some.inj (hi.symm.trans hj)
theorem Sep.weaken {B : Nat → Prop} (h : Sep D cl A Ps H) (hAB : ∀ q, q < H.size → A q → B q) : Sep D cl B Ps H := by
  obtain ⟨w, h1, h2, h3⟩ := h
  exact ⟨w, h1, fun i hi => ⟨fun q hq => ⟨((h2 i hi).1 q hq).1, hAB _ ((h2 i hi).1 q hq).1.lt ((h2 i hi).1 q hq).2⟩, (h2 i hi).2⟩, h3⟩
theorem sp_at' {is : List Nat} {Ps Ps' : List Asn} (hs : is.map (fun i => Ps[i]?) = Ps'.map some) : Ps'.length = is.length ∧ ∀ k, k < Ps'.length → is.getD k 0 < Ps.length ∧ is[k]? = some (is.getD k 0) ∧ ∀ P : Asn, Ps'[k]? = some P → Ps[is.getD k 0]? = some P := by
  have len : Ps'.length = is.length := by have := congrArg List.length hs; simpa using this.symm
  refine ⟨len, fun k hk => ?_⟩
  have hk' : k < is.length := by omega
  have e1 : is[k]? = some (is.getD k 0) := by rw [List.getD_eq_getElem?_getD, List.getElem?_eq_getElem hk']; rfl
  have e2 : (is.map (fun i => Ps[i]?))[k]? = (Ps'.map some)[k]? := by rw [hs]
  rw [List.getElem?_map, List.getElem?_map, e1, List.getElem?_eq_getElem hk] at e2
  have e3 : Ps[is.getD k 0]? = some Ps'[k] := Option.some.inj e2
  refine ⟨(List.getElem?_eq_some_iff.mp e3).1, e1, fun P hP => ?_⟩
  rw [e3, ← hP, List.getElem?_eq_getElem hk]
theorem Sep.pick {Ps' : List Asn} (h : Sep D cl A Ps H) (is : List Nat) (hn : va_nd is = true) (hs : is.map (fun i => Ps[i]?) = Ps'.map some) : Sep D cl A Ps' H := by
  obtain ⟨w, h1, h2, h3⟩ := h
  obtain ⟨len, ix⟩ := sp_at' hs
  refine ⟨fun k => w (is.getD k 0), fun k P hk => ?_, fun k hk => h2 _ (ix k hk).1, fun i j hi hj hij => h3 _ _ (ix i hi).1 (ix j hj).1 fun e => hij ?_⟩
  · have hl := (List.getElem?_eq_some_iff.mp hk).1
    exact h1 _ P ((ix k hl).2.2 P hk)
  · have e2 := (ix j hj).2.1
    rw [← e] at e2
    exact va_nd_inj is hn i j _ (ix i hi).2.1 e2
theorem Sep.hol {k : Nat} {P : Asn} (h : Sep D cl A Ps H) (hk : Ps[k]? = some P) : Hol D cl P H := by
  obtain ⟨w, h1, h2, h3⟩ := h
  exact ⟨w k, h1 k P hk, sp_memP.mpr fun q hq => ((h2 k (List.getElem?_eq_some_iff.mp hk).1).1 q hq).1⟩
theorem Hol.pts {q : Nat} {e : va_E} (h : Hol D cl (pts q e) H) : va_P D cl [(q, e)] H := by
  obtain ⟨ws, h1, h2⟩ := h
  rw [show ws = [(q, e)] from h1] at h2
  exact h2
theorem Sep.cel {k a : Nat} {e : va_E} (h : Sep D cl A Ps H) (hk : Ps[k]? = some (pts a e)) : va_P D cl [(a, e)] H := (h.hol hk).pts
theorem Sep.inn {k a : Nat} {e : va_E} (h : Sep D cl A Ps H) (hk : Ps[k]? = some (pts a e)) : A a ∧ a < H.size := by
  obtain ⟨w, h1, h2, h3⟩ := h
  have e1 : w k = [(a, e)] := h1 k _ hk
  have h4 := (h2 k (List.getElem?_eq_some_iff.mp hk).1).1 (a, e) (by rw [e1]; exact List.mem_cons_self)
  exact ⟨h4.2, h4.1.lt⟩
theorem sp_flat {w : Nat → va_W} {n : Nat} (h2 : ∀ i, i < n → (∀ q ∈ w i, va_at D cl q H ∧ A q.1) ∧ ((w i).map Prod.fst).Nodup) (h3 : ∀ i j, i < n → j < n → i ≠ j → ∀ p ∈ w i, ∀ q ∈ w j, p.1 ≠ q.1) :
    va_P D cl ((List.range n).flatMap w) H ∧ va_D A ((List.range n).flatMap w) := by
  refine ⟨sp_memP.mpr fun q hq => ?_, sp_memD.mpr ⟨?_, fun q hq => ?_⟩⟩
  · obtain ⟨i, hi, hq⟩ := List.mem_flatMap.mp hq
    exact ((h2 i (List.mem_range.mp hi)).1 q hq).1
  · rw [List.Nodup, List.pairwise_map, List.pairwise_flatMap]
    refine ⟨fun i hi => ?_, ?_⟩
    · have := (h2 i (List.mem_range.mp hi)).2
      rw [List.Nodup, List.pairwise_map] at this
      exact this
    · rw [List.pairwise_iff_getElem]
      intro i j hi hj hij x hx y hy
      simp only [List.getElem_range] at hx hy
      have hi' : i < n := by simpa using hi
      have hj' : j < n := by simpa using hj
      exact h3 i j hi' hj' (by omega) x hx y hy
  · obtain ⟨i, hi, hq⟩ := List.mem_flatMap.mp hq
    exact ((h2 i (List.mem_range.mp hi)).1 q hq).2
/-- the whole as one list of the kit's, with a cell's place; and back behind a write -/
theorem Sep.opn {k a : Nat} {e : va_E} (h : Sep D cl A Ps H) (hk : Ps[k]? = some (pts a e)) : ∃ (ws : va_W) (q0 : Nat), va_P D cl ws H ∧ va_D A ws ∧ ws[q0]? = some (a, e) ∧ (∀ (e' : va_E) (H1 : Heap), va_P D cl (ws.set q0 (a, e')) H1 → Sep D cl A (Ps.set k (pts a e')) H1) ∧ ∀ (j a' : Nat) (e2 : va_E), Ps[j]? = some (pts a' e2) → ∃ q : Nat, ws[q]? = some (a', e2) := by
  obtain ⟨w, h1, h2, h3⟩ := h
  obtain ⟨hP, hD⟩ := sp_flat h2 h3
  have hkl := (List.getElem?_eq_some_iff.mp hk).1
  have place : ∀ (j a' : Nat) (e2 : va_E), Ps[j]? = some (pts a' e2) → ∃ q : Nat, ((List.range Ps.length).flatMap w)[q]? = some (a', e2) := by
    intro j a' e2 hj
    have e1 : w j = [(a', e2)] := h1 j _ hj
    exact List.getElem?_of_mem (List.mem_flatMap.mpr ⟨j, List.mem_range.mpr (List.getElem?_eq_some_iff.mp hj).1, by rw [e1]; exact List.mem_cons_self⟩)
  obtain ⟨q0, hq0⟩ := place k a e hk
  have ek : w k = [(a, e)] := h1 k _ hk
  refine ⟨_, q0, hP, hD, hq0, fun e' H1 hP1 => ?_, place⟩
  have hq0l := (List.getElem?_eq_some_iff.mp hq0).1
  refine ⟨fun j => if j = k then [(a, e')] else w j, fun i P hi => ?_, fun i hi => ?_, fun i j hi hj hij p hp q hq => ?_⟩
  · by_cases hik : i = k
    · subst hik
      rw [List.getElem?_set_self hkl] at hi
      cases hi
      simp [pts]
    · rw [List.getElem?_set_ne (Ne.symm hik)] at hi
      simp only [hik, if_false]
      exact h1 i P hi
  · have hi' : i < Ps.length := by simpa using hi
    by_cases hik : i = k
    · subst hik
      simp only [if_true]
      refine ⟨fun q hq => ?_, by simp⟩
      rw [List.mem_singleton.mp hq]
      refine ⟨hP1 q0 _ (List.getElem?_set_self hq0l), ?_⟩
      exact ((h2 i hkl).1 (a, e) (by rw [ek]; exact List.mem_cons_self)).2
    · simp only [hik, if_false]
      refine ⟨fun q hq => ⟨?_, ((h2 i hi').1 q hq).2⟩, (h2 i hi').2⟩
      obtain ⟨i0, hi0⟩ := List.getElem?_of_mem (List.mem_flatMap.mpr ⟨i, List.mem_range.mpr hi', hq⟩ : q ∈ (List.range Ps.length).flatMap w)
      refine hP1 i0 q ?_
      rw [List.getElem?_set_ne]
      · exact hi0
      · intro e0
        subst e0
        rw [hq0] at hi0
        cases hi0
        exact h3 i k hi' hkl hik _ hq (a, e) (by rw [ek]; exact List.mem_cons_self) rfl
  · have hi' : i < Ps.length := by simpa using hi
    have hj' : j < Ps.length := by simpa using hj
    by_cases hik : i = k
    · subst hik
      simp only [if_true] at hp
      have hjk : j ≠ i := fun e => hij e.symm
      simp only [hjk, if_false] at hq
      rw [List.mem_singleton.mp hp]
      exact h3 i j hi' hj' hij (a, e) (by rw [ek]; exact List.mem_cons_self) q hq
    · simp only [hik, if_false] at hp
      by_cases hjk : j = k
      · subst hjk
        simp only [if_true] at hq
        rw [List.mem_singleton.mp hq]
        exact h3 i j hi' hj' hij p hp (a, e) (by rw [ek]; exact List.mem_cons_self)
      · simp only [hjk, if_false] at hq
        exact h3 i j hi' hj' hij p hp q hq
/-- the whole as one list of the kit's; and back behind a new cell -/
theorem Sep.opn0 (h : Sep D cl A Ps H) : ∃ ws : va_W, va_P D cl ws H ∧ va_D A ws ∧ ∀ (q : Nat) (e' : va_E) (H1 : Heap), va_P D cl (ws ++ [(q, e')]) H1 → va_D A (ws ++ [(q, e')]) → Sep D cl A (Ps ++ [pts q e']) H1 := by
  obtain ⟨w, h1, h2, h3⟩ := h
  obtain ⟨hP, hD⟩ := sp_flat h2 h3
  refine ⟨_, hP, hD, fun q e' H1 hP1 hD1 => ?_⟩
  rw [sp_memP] at hP1
  rw [sp_memD, List.map_append, List.nodup_append] at hD1
  obtain ⟨⟨-, -, hN⟩, hA⟩ := hD1
  have mem : ∀ i, i < Ps.length → ∀ x ∈ w i, x ∈ (List.range Ps.length).flatMap w := fun i hi x hx => List.mem_flatMap.mpr ⟨i, List.mem_range.mpr hi, hx⟩
  have ne : ∀ i, i < Ps.length → ∀ x ∈ w i, x.1 ≠ q := fun i hi x hx => hN x.1 (List.mem_map.mpr ⟨x, mem i hi x hx, rfl⟩) q (by simp)
  refine ⟨fun j => if j = Ps.length then [(q, e')] else w j, fun i P hi => ?_, fun i hi => ?_, fun i j hi hj hij x hx y hy => ?_⟩
  · by_cases hik : i = Ps.length
    · subst hik
      simp at hi
      subst hi
      simp [pts]
    · have hl := (List.getElem?_eq_some_iff.mp hi).1
      rw [List.getElem?_append_left (by simp at hl; omega)] at hi
      simp only [hik, if_false]
      exact h1 i P hi
  · by_cases hik : i = Ps.length
    · simp only [hik, if_true]
      refine ⟨fun x hx => ?_, by simp⟩
      rw [List.mem_singleton.mp hx]
      exact ⟨hP1 _ (List.mem_append_right _ List.mem_cons_self), hA _ (List.mem_append_right _ List.mem_cons_self)⟩
    · have hi' : i < Ps.length := by simp at hi; omega
      simp only [hik, if_false]
      exact ⟨fun x hx => ⟨hP1 _ (List.mem_append_left _ (mem i hi' x hx)), ((h2 i hi').1 x hx).2⟩, (h2 i hi').2⟩
  · by_cases hik : i = Ps.length
    · have hj' : j < Ps.length := by simp at hj; omega
      have hjk : j ≠ Ps.length := by omega
      simp only [hik, if_true] at hx
      simp only [hjk, if_false] at hy
      rw [List.mem_singleton.mp hx]
      exact fun e => ne j hj' y hy e.symm
    · have hi' : i < Ps.length := by simp at hi; omega
      simp only [hik, if_false] at hx
      by_cases hjk : j = Ps.length
      · simp only [hjk, if_true] at hy
        rw [List.mem_singleton.mp hy]
        exact ne i hi' x hx
      · have hj' : j < Ps.length := by simp at hj; omega
        simp only [hjk, if_false] at hy
        exact h3 i j hi' hj' hij x hx y hy
/-- a call: the callee's resources cut out; and what comes back put beside the rest -/
theorem Sep.cut {Pc Pr : List Asn} (h : Sep D cl A Ps H) (hA : ∀ q, H.size ≤ q → A q) (isC isR : List Nat) (hnC : va_nd isC = true) (hnR : va_nd isR = true) (hC : isC.map (fun i => Ps[i]?) = Pc.map some) (hR : isR.map (fun i => Ps[i]?) = Pr.map some) (hdis : ∀ i ∈ isR, i ∉ isC) :
    ∃ F : Nat → Prop, (∀ q, Fz F H.size q → A q) ∧ Sep D cl (Fz F H.size) Pc H ∧ ∀ (H1 : Heap) (Qs : List Asn), (∀ q : Nat, q < H.size → ¬ Fz F H.size q → H1[q]? = H[q]?) → Sep D cl (Fz F H.size) Qs H1 → Sep D cl A (Pr ++ Qs) H1 := by
  have hc := h.pick isC hnC hC
  have hr := h.pick isR hnR hR
  obtain ⟨w, h1, h2, h3⟩ := h
  obtain ⟨lenC, ixC⟩ := sp_at' hC
  obtain ⟨lenR, ixR⟩ := sp_at' hR
  refine ⟨fun q => ∃ i ∈ isC, i < Ps.length ∧ ∃ x ∈ w i, x.1 = q, fun q hq => ?_, ?_, fun H1 Qs hk hQ => ?_⟩
  · rcases hq with ⟨i, -, hi, x, hx, rfl⟩ | hq
    · exact ((h2 i hi).1 x hx).2
    · exact hA q hq
  · refine ⟨fun k => w (isC.getD k 0), fun k P hkP => ?_, fun k hk => ⟨fun q hq => ⟨((h2 _ (ixC k hk).1).1 q hq).1, Or.inl ⟨_, List.mem_of_getElem? (ixC k hk).2.1, (ixC k hk).1, q, hq, rfl⟩⟩, (h2 _ (ixC k hk).1).2⟩, fun i j hi hj hij => h3 _ _ (ixC i hi).1 (ixC j hj).1 fun e => hij ?_⟩
    · have hl := (List.getElem?_eq_some_iff.mp hkP).1
      exact h1 _ P ((ixC k hl).2.2 P hkP)
    · have e2 := (ixC j hj).2.1
      rw [← e] at e2
      exact va_nd_inj isC hnC i j _ (ixC i hi).2.1 e2
  · obtain ⟨v, g1, g2, g3⟩ := hQ
    have out : ∀ k, k < Pr.length → ∀ q ∈ w (isR.getD k 0), ¬ Fz (fun q => ∃ i ∈ isC, i < Ps.length ∧ ∃ x ∈ w i, x.1 = q) H.size q.1 := by
      intro k hk q hq hz
      rcases hz with ⟨i, hi, hl, x, hx, e⟩ | hz
      · refine h3 i (isR.getD k 0) hl (ixR k hk).1 (fun e2 => ?_) x hx q hq e
        exact hdis _ (List.mem_of_getElem? (ixR k hk).2.1) (by rw [← e2]; exact hi)
      · have := ((h2 _ (ixR k hk).1).1 q hq).1.lt
        omega
    refine ⟨fun k => if k < Pr.length then w (isR.getD k 0) else v (k - Pr.length), fun k P hkP => ?_, fun k hkl => ?_, fun i j hi hj hij x hx y hy => ?_⟩
    · by_cases hl : k < Pr.length
      · rw [List.getElem?_append_left hl] at hkP
        simp only [hl, if_true]
        exact h1 _ P ((ixR k hl).2.2 P hkP)
      · rw [List.getElem?_append_right (by omega)] at hkP
        simp only [hl, if_false]
        exact g1 _ P hkP
    · by_cases hl : k < Pr.length
      · simp only [hl, if_true]
        refine ⟨fun q hq => ⟨?_, ((h2 _ (ixR k hl).1).1 q hq).2⟩, (h2 _ (ixR k hl).1).2⟩
        have h4 := ((h2 _ (ixR k hl).1).1 q hq).1
        exact h4.kept (hk q.1 h4.lt (out k hl q hq))
      · simp only [hl, if_false]
        have hl2 : k - Pr.length < Qs.length := by simp at hkl; omega
        refine ⟨fun q hq => ⟨((g2 _ hl2).1 q hq).1, ?_⟩, (g2 _ hl2).2⟩
        rcases ((g2 _ hl2).1 q hq).2 with ⟨i, -, hi, z, hz, e⟩ | hz
        · rw [← e]; exact ((h2 i hi).1 z hz).2
        · exact hA _ hz
    · by_cases hli : i < Pr.length
      · simp only [hli, if_true] at hx
        by_cases hlj : j < Pr.length
        · simp only [hlj, if_true] at hy
          refine h3 _ _ (ixR i hli).1 (ixR j hlj).1 (fun e => hij ?_) x hx y hy
          have e2 := (ixR j hlj).2.1
          rw [← e] at e2
          exact va_nd_inj isR hnR i j _ (ixR i hli).2.1 e2
        · simp only [hlj, if_false] at hy
          have hl2 : j - Pr.length < Qs.length := by simp at hj; omega
          intro e
          exact out i hli x hx (by rw [e]; exact ((g2 _ hl2).1 y hy).2)
      · simp only [hli, if_false] at hx
        have hl1 : i - Pr.length < Qs.length := by simp at hi; omega
        by_cases hlj : j < Pr.length
        · simp only [hlj, if_true] at hy
          intro e
          exact out j hlj y hy (by rw [← e]; exact ((g2 _ hl1).1 x hx).2)
        · simp only [hlj, if_false] at hy
          have hl2 : j - Pr.length < Qs.length := by simp at hj; omega
          exact g3 _ _ hl1 hl2 (by omega) x hx y hy
/-- what was there stays where nothing old was written -/
theorem Sep.kept {H1 : Heap} (h : Sep D cl A Ps H) (hk : ∀ q : Nat, q < H.size → H1[q]? = H[q]?) : Sep D cl A Ps H1 := by
  obtain ⟨w, h1, h2, h3⟩ := h
  exact ⟨w, h1, fun i hi => ⟨fun q hq => ⟨((h2 i hi).1 q hq).1.kept (hk _ ((h2 i hi).1 q hq).1.lt), ((h2 i hi).1 q hq).2⟩, (h2 i hi).2⟩, h3⟩
theorem Hol.kept {P : Asn} {H1 : Heap} (h : Hol D cl P H) (hk : ∀ q : Nat, q < H.size → H1[q]? = H[q]?) : Hol D cl P H1 := by
  obtain ⟨ws, h1, h2⟩ := h
  exact ⟨ws, h1, h2.kept fun k q hq => hk _ (h2 k q hq).lt⟩
/-- a resource is unpacked, or said in other words -/
theorem Sep.ex {k : Nat} {P : Asn} {α : Type} {φ : α → Prop} {Q : α → Asn} (h : Sep D cl A Ps H) (hk : Ps[k]? = some P) (imp : ∀ w, P w → ∃ x, φ x ∧ Q x w) : ∃ x, φ x ∧ Sep D cl A (Ps.set k (Q x)) H := by
  obtain ⟨w, h1, h2, h3⟩ := h
  obtain ⟨x, hx, hQ⟩ := imp _ (h1 k P hk)
  have hkl := (List.getElem?_eq_some_iff.mp hk).1
  refine ⟨x, hx, w, fun i P' hi => ?_, fun i hi => h2 i (by simpa using hi), fun i j hi hj => h3 i j (by simpa using hi) (by simpa using hj)⟩
  by_cases hik : i = k
  · subst hik
    rw [List.getElem?_set_self hkl] at hi
    cases hi
    exact hQ
  · rw [List.getElem?_set_ne (Ne.symm hik)] at hi
    exact h1 i P' hi
theorem Sep.conv {k : Nat} {P Q : Asn} (h : Sep D cl A Ps H) (hk : Ps[k]? = some P) (imp : ∀ w, P w → Q w) : Sep D cl A (Ps.set k Q) H := by
  obtain ⟨x, -, h⟩ := h.ex (α := Unit) (φ := fun _ => True) (Q := fun _ => Q) hk (fun w hw => ⟨(), trivial, imp w hw⟩)
  exact h
theorem Sep.unpk {k : Nat} {Qs Pr : List Asn} (h : Sep D cl A Ps H) (hk : Ps[k]? = some (bigA Qs)) (isR : List Nat) (hnR : va_nd isR = true) (hR : isR.map (fun i => Ps[i]?) = Pr.map some) (hdis : k ∉ isR) : Sep D cl A (Pr ++ Qs) H := by
  obtain ⟨w, h1, h2, h3⟩ := h
  obtain ⟨lenR, ixR⟩ := sp_at' hR
  have hkl := (List.getElem?_eq_some_iff.mp hk).1
  obtain ⟨v, g1, g2⟩ := h1 k _ hk
  have hNd : (((List.range Qs.length).flatMap v).map Prod.fst).Nodup := (g2.map Prod.fst).nodup_iff.mp (h2 k hkl).2
  have memv : ∀ i, i < Qs.length → ∀ x ∈ v i, x ∈ w k := fun i hi x hx => g2.mem_iff.mpr (List.mem_flatMap.mpr ⟨i, List.mem_range.mpr hi, hx⟩)
  have hnv : (∀ i, i < Qs.length → ((v i).map Prod.fst).Nodup) ∧ ∀ i j, i < j → j < Qs.length → ∀ x ∈ v i, ∀ y ∈ v j, x.1 ≠ y.1 := by
    rw [List.Nodup, List.pairwise_map, List.pairwise_flatMap] at hNd
    refine ⟨fun i hi => ?_, fun i j hij hj x hx y hy => ?_⟩
    · rw [List.Nodup, List.pairwise_map]
      exact hNd.1 i (List.mem_range.mpr hi)
    · have := hNd.2
      rw [List.pairwise_iff_getElem] at this
      exact this i j (by simp; omega) (by simp; omega) hij x (by simpa using hx) y (by simpa using hy)
  have ne : ∀ k', k' < Pr.length → isR.getD k' 0 ≠ k := fun k' hk' e => hdis (by rw [← e]; exact List.mem_of_getElem? (ixR k' hk').2.1)
  refine ⟨fun j => if j < Pr.length then w (isR.getD j 0) else v (j - Pr.length), fun j P hj => ?_, fun j hj => ?_, fun i j hi hj hij x hx y hy => ?_⟩
  · by_cases hl : j < Pr.length
    · rw [List.getElem?_append_left hl] at hj
      simp only [hl, if_true]
      exact h1 _ P ((ixR j hl).2.2 P hj)
    · rw [List.getElem?_append_right (by omega)] at hj
      simp only [hl, if_false]
      exact g1 _ P hj
  · by_cases hl : j < Pr.length
    · simp only [hl, if_true]
      exact h2 _ (ixR j hl).1
    · have hl2 : j - Pr.length < Qs.length := by simp at hj; omega
      simp only [hl, if_false]
      exact ⟨fun q hq => (h2 k hkl).1 q (memv _ hl2 q hq), hnv.1 _ hl2⟩
  · by_cases hli : i < Pr.length
    · simp only [hli, if_true] at hx
      by_cases hlj : j < Pr.length
      · simp only [hlj, if_true] at hy
        refine h3 _ _ (ixR i hli).1 (ixR j hlj).1 (fun e => hij ?_) x hx y hy
        have e2 := (ixR j hlj).2.1
        rw [← e] at e2
        exact va_nd_inj isR hnR i j _ (ixR i hli).2.1 e2
      · have hl2 : j - Pr.length < Qs.length := by simp at hj; omega
        simp only [hlj, if_false] at hy
        exact h3 _ _ (ixR i hli).1 hkl (ne i hli) x hx y (memv _ hl2 y hy)
    · have hl1 : i - Pr.length < Qs.length := by simp at hi; omega
      simp only [hli, if_false] at hx
      by_cases hlj : j < Pr.length
      · simp only [hlj, if_true] at hy
        exact fun e => h3 _ _ (ixR j hlj).1 hkl (ne j hlj) y hy x (memv _ hl1 x hx) e.symm
      · have hl2 : j - Pr.length < Qs.length := by simp at hj; omega
        simp only [hlj, if_false] at hy
        rcases Nat.lt_trichotomy (i - Pr.length) (j - Pr.length) with h | h | h
        · exact hnv.2 _ _ h hl2 x hx y hy
        · omega
        · exact fun e => hnv.2 _ _ h hl1 y hy x hx e.symm
theorem Sep.close {Pc Pr : List Asn} {P : Asn} (h : Sep D cl A Ps H) (isC isR : List Nat) (hnC : va_nd isC = true) (hnR : va_nd isR = true) (hC : isC.map (fun i => Ps[i]?) = Pc.map some) (hR : isR.map (fun i => Ps[i]?) = Pr.map some) (hdis : ∀ i ∈ isR, i ∉ isC) (imp : ∀ w, bigA Pc w → P w) : Sep D cl A (Pr ++ [P]) H := by
  obtain ⟨w, h1, h2, h3⟩ := h
  obtain ⟨lenC, ixC⟩ := sp_at' hC
  obtain ⟨lenR, ixR⟩ := sp_at' hR
  have hx := sp_flat (D := D) (cl := cl) (A := A) (H := H) (w := fun k => w (isC.getD k 0)) (n := Pc.length) (fun k hk => h2 _ (ixC k hk).1) (fun i j hi hj hij => h3 _ _ (ixC i hi).1 (ixC j hj).1 fun e => hij (by
    have e2 := (ixC j hj).2.1
    rw [← e] at e2
    exact va_nd_inj isC hnC i j _ (ixC i hi).2.1 e2))
  obtain ⟨hP, hD⟩ := hx
  rw [sp_memP] at hP
  rw [sp_memD] at hD
  have apart : ∀ k, k < Pr.length → ∀ x ∈ w (isR.getD k 0), ∀ y ∈ (List.range Pc.length).flatMap (fun k => w (isC.getD k 0)), x.1 ≠ y.1 := by
    intro k hk x hx y hy
    obtain ⟨j, hj, hy⟩ := List.mem_flatMap.mp hy
    have hj := List.mem_range.mp hj
    refine h3 _ _ (ixR k hk).1 (ixC j hj).1 (fun e => ?_) x hx y hy
    exact hdis _ (List.mem_of_getElem? (ixR k hk).2.1) (by rw [e]; exact List.mem_of_getElem? (ixC j hj).2.1)
  refine ⟨fun k => if k < Pr.length then w (isR.getD k 0) else (List.range Pc.length).flatMap (fun k => w (isC.getD k 0)), fun k Q hk => ?_, fun k hk => ?_, fun i j hi hj hij x hx y hy => ?_⟩
  · by_cases hl : k < Pr.length
    · rw [List.getElem?_append_left hl] at hk
      simp only [hl, if_true]
      exact h1 _ Q ((ixR k hl).2.2 Q hk)
    · have hkl := (List.getElem?_eq_some_iff.mp hk).1
      rw [List.getElem?_append_right (by omega)] at hk
      have h0 : k - Pr.length = 0 := by simp at hkl; omega
      rw [h0] at hk
      cases hk
      simp only [hl, if_false]
      refine imp _ ⟨fun k => w (isC.getD k 0), fun i Q hi => ?_, List.Perm.refl _⟩
      exact h1 _ Q ((ixC i (List.getElem?_eq_some_iff.mp hi).1).2.2 Q hi)
  · by_cases hl : k < Pr.length
    · simp only [hl, if_true]
      exact h2 _ (ixR k hl).1
    · simp only [hl, if_false]
      exact ⟨fun q hq => ⟨hP q hq, hD.2 q hq⟩, hD.1⟩
  · by_cases hli : i < Pr.length
    · simp only [hli, if_true] at hx
      by_cases hlj : j < Pr.length
      · simp only [hlj, if_true] at hy
        refine h3 _ _ (ixR i hli).1 (ixR j hlj).1 (fun e => hij ?_) x hx y hy
        have e2 := (ixR j hlj).2.1
        rw [← e] at e2
        exact va_nd_inj isR hnR i j _ (ixR i hli).2.1 e2
      · simp only [hlj, if_false] at hy
        exact apart i hli x hx y hy
    · simp only [hli, if_false] at hx
      by_cases hlj : j < Pr.length
      · simp only [hlj, if_true] at hy
        exact fun e => apart j hlj y hy x hx e.symm
      · simp at hi hj; omega
theorem sp_nil : Sep D cl A [] H := ⟨fun _ => [], fun i P h => by simp at h, fun i h => absurd h (by simp), fun i j h => absurd h (by simp)⟩
/-- a callee that may change nothing old: the caller's resources stay -/
theorem sp_nilJ {F : Nat → Prop} (h : Sep D cl A Ps H) (hn : ∀ q, F q → False) (hA : ∀ q, Fz F H.size q → A q) : ∀ (H1 : Heap) (Qs : List Asn), (∀ q : Nat, q < H.size → ¬ Fz F H.size q → H1[q]? = H[q]?) → Sep D cl (Fz F H.size) Qs H1 → Sep D cl A (Ps ++ Qs) H1 := by
  intro H1 Qs hk hQ
  obtain ⟨w, h1, h2, h3⟩ := h
  obtain ⟨v, g1, g2, g3⟩ := hQ
  have old : ∀ i, i < Ps.length → ∀ q ∈ w i, q.1 < H.size := fun i hi q hq => ((h2 i hi).1 q hq).1.lt
  have new : ∀ i, i < Qs.length → ∀ q ∈ v i, H.size ≤ q.1 := fun i hi q hq => by
    rcases ((g2 i hi).1 q hq).2 with z | z
    · exact (hn _ z).elim
    · exact z
  refine ⟨fun k => if k < Ps.length then w k else v (k - Ps.length), fun k P hkP => ?_, fun k hkl => ?_, fun i j hi hj hij x hx y hy => ?_⟩
  · by_cases hl : k < Ps.length
    · rw [List.getElem?_append_left hl] at hkP
      simp only [hl, if_true]
      exact h1 _ P hkP
    · rw [List.getElem?_append_right (by omega)] at hkP
      simp only [hl, if_false]
      exact g1 _ P hkP
  · by_cases hl : k < Ps.length
    · simp only [hl, if_true]
      refine ⟨fun q hq => ⟨?_, ((h2 _ hl).1 q hq).2⟩, (h2 _ hl).2⟩
      refine ((h2 _ hl).1 q hq).1.kept (hk q.1 (old k hl q hq) fun z => ?_)
      rcases z with z | z
      · exact hn _ z
      · have := old k hl q hq; omega
    · have hl2 : k - Ps.length < Qs.length := by simp at hkl; omega
      simp only [hl, if_false]
      exact ⟨fun q hq => ⟨((g2 _ hl2).1 q hq).1, hA _ ((g2 _ hl2).1 q hq).2⟩, (g2 _ hl2).2⟩
  · by_cases hli : i < Ps.length
    · simp only [hli, if_true] at hx
      by_cases hlj : j < Ps.length
      · simp only [hlj, if_true] at hy
        exact h3 _ _ hli hlj hij x hx y hy
      · have hl2 : j - Ps.length < Qs.length := by simp at hj; omega
        simp only [hlj, if_false] at hy
        have := old i hli x hx; have := new _ hl2 y hy; omega
    · have hl1 : i - Ps.length < Qs.length := by simp at hi; omega
      simp only [hli, if_false] at hx
      by_cases hlj : j < Ps.length
      · simp only [hlj, if_true] at hy
        have := old j hlj y hy; have := new _ hl1 x hx; omega
      · have hl2 : j - Ps.length < Qs.length := by simp at hj; omega
        simp only [hlj, if_false] at hy
        exact g3 _ _ hl1 hl2 (by omega) x hx y hy
end SEP
