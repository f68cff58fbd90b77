/-! LISTS: the JDK's ArrayList as a resource -/
set_option maxRecDepth 100000
def listA (G : EVT) (q : Nat) (m : Int32) (xs : List Nat) : Asn := fun w =>
  (xs = [] ∧ bigA [pts q (.inr (10, [.int m, .ref G.2.2.2.1, .int (nI 0)]))] w) ∨
  ∃ (b : Nat) (f : Nat → Option Nat), (xs.length ≤ 10 ∧ ∀ k, k < xs.length → f k = some (xs.getD k 0)) ∧ bigA [pts q (.inr (10, [.int m, .ref b, .int (nI xs.length)])), pts b (.inl (G.2.1 4, 10, .inr (.inr (.inr (.inr f)))))] w
theorem list_a {G : EVT} {q : Nat} {m : Int32} {w : va_W} (h : bigA [pts q (.inr (10, [.int m, .ref G.2.2.2.1, .int (nI 0)]))] w) : listA G q m [] w := Or.inl ⟨rfl, h⟩
theorem list_b {G : EVT} {q b n : Nat} {m : Int32} {xs : List Nat} {f : Nat → Option Nat} {w : va_W} (hn : n = xs.length) (h1 : xs.length ≤ 10) (h2 : ∀ k, k < xs.length → f k = some (xs.getD k 0)) (h : bigA [pts q (.inr (10, [.int m, .ref b, .int (nI n)])), pts b (.inl (G.2.1 4, 10, .inr (.inr (.inr (.inr f)))))] w) : listA G q m xs w := Or.inr ⟨b, f, ⟨h1, h2⟩, by subst hn; exact h⟩
/-- a resource is two -/
theorem Sep.orE {D : va_G} {cl : List vw_C} {A : Nat → Prop} {Ps : List Asn} {H : Heap} {k : Nat} {P : Asn} {ψ1 ψ2 : Asn → Prop} (h : Sep D cl A Ps H) (hk : Ps[k]? = some P) (imp : ∀ w, P w → (∃ Q, ψ1 Q ∧ Q w) ∨ (∃ Q, ψ2 Q ∧ Q w)) : (∃ Q, ψ1 Q ∧ Sep D cl A (Ps.set k Q) H) ∨ (∃ Q, ψ2 Q ∧ Sep D cl A (Ps.set k Q) H) := by
  obtain ⟨w, hw, hQ⟩ := h.atk hk
  rcases imp w hw with ⟨Q, h1, h2⟩ | ⟨Q, h1, h2⟩
  · exact Or.inl ⟨Q, h1, hQ Q h2⟩
  · exact Or.inr ⟨Q, h1, hQ Q h2⟩
theorem list_cs {G : EVT} {A : Nat → Prop} {Ps Pr : List Asn} {H : Heap} {q k : Nat} {m : Int32} {xs : List Nat} (h : Sep G.1 clA A Ps H) (hk : Ps[k]? = some (listA G q m xs)) (isR : List Nat) (hnR : va_nd isR = true) (hR : isR.map (fun i => Ps[i]?) = Pr.map some) (hdis : k ∉ isR) :
    (xs = [] ∧ Sep G.1 clA A (Pr ++ [pts q (.inr (10, [.int m, .ref G.2.2.2.1, .int (nI 0)]))]) H) ∨ ∃ (b : Nat) (f : Nat → Option Nat), (xs.length ≤ 10 ∧ ∀ k, k < xs.length → f k = some (xs.getD k 0)) ∧ Sep G.1 clA A (Pr ++ [pts q (.inr (10, [.int m, .ref b, .int (nI xs.length)])), pts b (.inl (G.2.1 4, 10, .inr (.inr (.inr (.inr f)))))]) H := by
  obtain ⟨w, hw, hQ⟩ := h.atk hk
  have hkl := (List.getElem?_eq_some_iff.mp hk).1
  have hR' : ∀ Q : Asn, isR.map (fun i => (Ps.set k Q)[i]?) = Pr.map some := fun Q => by
    rw [← hR]
    apply List.map_congr_left
    intro i hi
    rw [List.getElem?_set_ne]
    intro e
    subst e
    exact hdis hi
  rcases hw with ⟨h1, h2⟩ | ⟨b, f, h1, h2⟩
  · exact Or.inl ⟨h1, (hQ _ h2).unpk (List.getElem?_set_self hkl) isR hnR (hR' _) hdis⟩
  · exact Or.inr ⟨b, f, h1, (hQ _ h2).unpk (List.getElem?_set_self hkl) isR hnR (hR' _) hdis⟩
theorem big1 {D : va_G} {cl : List vw_C} {H : Heap} {a : Nat} {e : va_E} {w : va_W} (h : bigA [pts a e] w) (hP : va_P D cl w H) : va_P D cl [(a, e)] H := by
  obtain ⟨v, h1, h2⟩ := h
  have e1 : v 0 = [(a, e)] := h1 0 _ rfl
  rw [sp_memP] at hP ⊢
  intro x hx
  refine hP x (h2.mem_iff.mpr (List.mem_flatMap.mpr ⟨0, by simp, ?_⟩))
  rw [e1]
  exact hx
theorem big2 {D : va_G} {cl : List vw_C} {H : Heap} {a b : Nat} {e e2 : va_E} {w : va_W} (h : bigA [pts a e, pts b e2] w) (hP : va_P D cl w H) : va_P D cl [(a, e), (b, e2)] H := by
  obtain ⟨v, h1, h2⟩ := h
  have e1 : v 0 = [(a, e)] := h1 0 _ rfl
  have e3 : v 1 = [(b, e2)] := h1 1 _ rfl
  rw [sp_memP] at hP ⊢
  intro x hx
  refine hP x (h2.mem_iff.mpr (List.mem_flatMap.mpr ?_))
  rcases List.mem_cons.mp hx with z | z
  · exact ⟨0, by simp, by rw [e1, z]; exact List.mem_cons_self⟩
  · exact ⟨1, by simp, by rw [e3]; exact z⟩
/-- a list, for reading -/
theorem list_ro {G : EVT} {H : Heap} {q : Nat} {m : Int32} {xs : List Nat} (h : Hol G.1 clA (listA G q m xs) H) :
    (xs = [] ∧ va_P G.1 clA [(q, .inr (10, [.int m, .ref G.2.2.2.1, .int (nI 0)]))] H) ∨ ∃ (b : Nat) (f : Nat → Option Nat), (xs.length ≤ 10 ∧ ∀ k, k < xs.length → f k = some (xs.getD k 0)) ∧ va_P G.1 clA [(q, .inr (10, [.int m, .ref b, .int (nI xs.length)])), (b, .inl (G.2.1 4, 10, .inr (.inr (.inr (.inr f)))))] H := by
  obtain ⟨w, hw, hP⟩ := h
  rcases hw with ⟨h1, h2⟩ | ⟨b, f, h1, h2⟩
  · exact Or.inl ⟨h1, big1 h2 hP⟩
  · exact Or.inr ⟨b, f, h1, big2 h2 hP⟩
/-- whatever its state: the list's object -/
theorem list_obj {G : EVT} {H : Heap} {q : Nat} {m : Int32} {xs : List Nat} (h : Hol G.1 clA (listA G q m xs) H) : ∃ fs, va_P G.1 clA [(q, .inr (10, fs))] H := by
  rcases list_ro h with ⟨-, h2⟩ | ⟨b, f, -, h2⟩
  · exact ⟨_, h2⟩
  · exact ⟨_, h2.sub [0] rfl⟩
/-- what an element of a list is -/
def elR (G : EVT) (C : String) (y : Nat) (H : Heap) : Prop := (C = "java/lang/Integer" ∧ ∃ k, k < 256 ∧ y = G.2.2.1 k) ∨ ((C = "TaleDuel$Sentence" ∨ C = "TaleDuel$State") ∧ ∃ (ci : Nat) (fs : List Value) (T : u_T) (n : Nat), clA[ci]? = some (C, T, n) ∧ va_P G.1 clA [(y, .inr (ci, fs))] H)
theorem el_cell {G : EVT} {A : Nat → Prop} {s : State} {H : Heap} {locs : List Loc} {C : String} {y : Nat} (hE : En G A s s.heap) (hS : va_S A s.heap H locs) (h : elR G C y H) : ∃ cellV : Cell, H[y]? = some cellV ∧ cellV.vm.isStatics = false ∧ s.vm.findClass C = some cellV.cls := by
  rcases h with ⟨rfl, k, hk, rfl⟩ | ⟨-, ci, fs, T, n, hc, hP⟩
  · obtain ⟨cell, h1, h2, h3, -⟩ := ((hE.kept hS.2.1).2.2.2.2.2.2.2.2.1).1 k hk
    exact ⟨cell, h1, h2, h3⟩
  · exact sp_recv hE.1 hP hc
theorem el_asg {G : EVT} {A : Nat → Prop} {s : State} {H : Heap} {C : String} {y : Nat} (hE : En G A s s.heap) (h : elR G C y H) : ∀ comp c0 : ClassId, s.vm.findClass "java/lang/Object" = some comp → s.vm.findClass C = some c0 → s.vm.assignable c0 comp = true := by
  rcases h with ⟨rfl, -⟩ | ⟨rfl | rfl, -⟩
  · exact vb_asgC (hE.2.1 _ q1800 rfl)
  · exact vb_asgC (hE.2.1 _ q1788 rfl)
  · exact vb_asgC (hE.2.1 _ q1783 rfl)
theorem va_up_app {f : Nat → Option Nat} {xs : List Nat} {e n : Nat} (h : ∀ k, k < xs.length → f k = some (xs.getD k 0)) (hn : n = xs.length) : ∀ k, k < (xs ++ [e]).length → va_up f n (some e) k = some ((xs ++ [e]).getD k 0) := by
  intro k hk
  rw [List.length_append, List.length_singleton] at hk
  unfold va_up
  rw [List.getD_eq_getElem?_getD]
  by_cases z : k = n
  · rw [if_pos z, List.getElem?_append_right (by omega), show k - xs.length = 0 by omega]
    rfl
  · rw [if_neg z, List.getElem?_append_left (by omega), h k (by omega), List.getD_eq_getElem?_getD]
theorem cpy_cons {f : Nat → Option Nat} {xs : List Nat} {e n : Nat} (h : ∀ k, k < xs.length → f k = some (xs.getD k 0)) (hn : n = xs.length) : ∀ k, k < (e :: xs).length → va_up (va_cpy f f 0 1 n) 0 (some e) k = some ((e :: xs).getD k 0) := by
  intro k hk
  rw [List.length_cons] at hk
  unfold va_up
  cases k with
  | zero => rfl
  | succ k =>
    rw [if_neg (by omega), pk_cpy_in (by omega) (by omega), show 0 + (k + 1 - 1) = k by omega, h k (by omega)]
    rfl
theorem cpy_del {f : Nat → Option Nat} {xs : List Nat} {i n : Nat} (h : ∀ k, k < xs.length → f k = some (xs.getD k 0)) (hi : i < xs.length) (hn : n = xs.length - 1 - i) (j : Nat) (hj : j = xs.length - 1) : ∀ k, k < (xs.eraseIdx i).length → va_up (va_cpy f f (i + 1) i n) j none k = some ((xs.eraseIdx i).getD k 0) := by
  intro k hk
  rw [List.length_eraseIdx_of_lt hi] at hk
  unfold va_up
  rw [if_neg (by omega), List.getD_eq_getElem?_getD, List.getElem?_eraseIdx]
  by_cases z : k < i
  · rw [if_pos z, pk_cpy_out (Or.inl z), h k (by omega), List.getD_eq_getElem?_getD]
  · rw [if_neg z, pk_cpy_in (by omega) (by omega), show i + 1 + (k - i) = k + 1 by omega, h (k + 1) (by omega), List.getD_eq_getElem?_getD]
theorem del_last {f : Nat → Option Nat} {xs : List Nat} {i : Nat} (h : ∀ k, k < xs.length → f k = some (xs.getD k 0)) (hi : i = xs.length - 1) (h0 : 0 < xs.length) (j : Nat) (hj : j = xs.length - 1) : ∀ k, k < (xs.eraseIdx i).length → va_up f j none k = some ((xs.eraseIdx i).getD k 0) := by
  intro k hk
  rw [List.length_eraseIdx_of_lt (by omega)] at hk
  unfold va_up
  rw [if_neg (by omega), List.getD_eq_getElem?_getD, List.getElem?_eraseIdx, if_pos (by omega), h k (by omega), List.getD_eq_getElem?_getD]
theorem vb_c_nI {w : Nat} (h : w ≤ 127) : vb_c (w + 128) = nI w := by
  have : ∀ w : Fin 128, vb_c (w.val + 128) = nI w.val := by decide
  exact this ⟨w, by omega⟩
theorem lw_F {own : String} {idx : Nat} {C : String} {x y : MethodName} {b : ByteArray} {L : Nat} {r : Option FieldType} (h1 : Cond.methodLink own idx x ∈ lw_all) (h2 : Cond.selects C x y ∈ lw_all) (h3 : Cond.instanceMethod y ∈ lw_all) (h4 : Cond.initialized y.cls ∈ lw_all) (h5 : Cond.code y b L r ∈ lw_all) : GoodIn lw_all (va_wsF own idx C x y (ws_ y b L r)) := by
  refine lw_app ?_ (lw_meth h5)
  intro w hw
  simp only [List.mem_cons, List.not_mem_nil, or_false] at hw
  rcases hw with e | e | e | e
  · rw [e]; exact h1
  · rw [e]; exact h2
  · rw [e]; exact h3
  · rw [e]; exact h4
