/-! System.arraycopy within a row of references -/
set_option maxRecDepth 100000
section CPQ
variable {p : Program} {l : Launch} {e : Env} {R : Room} {s : State} {m : MethodId} {args : Array Value} {below : List Frame} {meth : Method} {c : Code} {H : Heap} {locs : List Loc} {cells slots : Nat} {Q : State → Prop}
variable {cc : ByteArray} {pc : Nat} {ls : Array Slot} {rest : List Value} {D : va_G} {cl : List vw_C} {A : Nat → Prop} {a : Nat} {tys : List (ClassId × FieldType)} {Ps : List Asn} {H0 : Heap}
theorem s_copyq (hexec : p.tables.exec = Jvm.exec) (hb : c.code = cc) (hml : c.maxLocals = ls.size) {own : String} {index : Nat} (hown : s.vm.findClass own = some m.cls) (hlink : (Cond.methodLink own index arraycopyName).before args s = true) (hnat : (Cond.native arraycopyName).before args s = true) (hstat : (Cond.static arraycopyName).before args s = true) (hini : (Cond.initialized "java/lang/System").before args s = true)
    (hK : va_K D cl tys s) (hSep : Sep D cl A Ps H) (hS : va_S A H0 H locs) (j : Nat) {cA : ClassId} {N : Nat} {f : Nat → Option Nat} (hj : Ps[j]? = some (pts a (.inl (cA, N, .inr (.inr (.inr (.inr f))))))) (t0 : Nat) {E C : String} (ht : tys[t0]? = some (cA, .object E))
    {sp dp n : Nat} (h1 : sp + n ≤ N) (h2 : dp + n ≤ N) (hN : N < 2 ^ 31) (hel : ∀ i : Nat, i < n → ∀ y : Nat, f (sp + i) = some y → ∃ cellV : Cell, H[y]? = some cellV ∧ cellV.vm.isStatics = false ∧ s.vm.findClass C = some cellV.cls) (hasg : ∀ comp c0 : ClassId, s.vm.findClass E = some comp → s.vm.findClass C = some c0 → s.vm.assignable c0 comp = true)
    (hframes : 1 ≤ R.frames) (hlocals : (rest.map fun v => v.category).sum + (nativeFrameWords "java/lang/System" "arraycopy" 5 + 11) ≤ R.locals) (hdg : decode cc pc = .ok (.invokestatic index, 3))
    (kk : ∀ (H1 : Heap) (locs1 : List Loc), Sep D cl A (Ps.set j (pts a (.inl (cA, N, .inr (.inr (.inr (.inr (va_cpy f f sp dp n)))))))) H1 → va_S A H0 H1 locs1 → W p l e R s m args below meth c H1 locs1 cells slots Q (F0 m (pc + 3) ls rest)) : W p l e R s m args below meth c H locs cells slots Q (F0 m pc ls (.int (nI n) :: .int (nI dp) :: .ref a :: .int (nI sp) :: .ref a :: rest)) := by
  obtain ⟨ws, q0, hP, hD, he, hset, -⟩ := hSep.opn hj
  have e1 : (nI sp).toNatClampNeg = sp := nI_clamp (by omega)
  have e2 : (nI dp).toNatClampNeg = dp := nI_clamp (by omega)
  have e3 : (nI n).toNatClampNeg = n := nI_clamp (by omega)
  refine va_copyq (C := C) hexec hb hml hown hlink hnat hstat hini hK hP hD hS q0 q0 t0 t0 he he ht ht (nI_pos (by omega)) (nI_pos (by omega)) (nI_pos (by omega)) (by rw [e1, e3]; exact h1) (by rw [e2, e3]; exact h2) (by rw [e1, e3]; exact hel) hasg hframes hlocals hdg (fun H1 locs1 hP1 hD1 hS1 => ?_)
  rw [e1, e2, e3] at hP1
  exact kk H1 locs1 (hset _ _ hP1) hS1
end CPQ
