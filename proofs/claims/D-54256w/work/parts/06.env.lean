/-! THE GROUND: classes, tables' words and statics that hold all through the run; the form of a contract -/
set_option maxRecDepth 100000
abbrev clA : List vw_C := [(RX1, TX1, 4), (RX2, TX2, 2), (RX3, TX3, 2), (RX4, TX4, 16), (RX6, TX6, 10), (RX7, TX7, 2), (RX8, TX8, 4), (RX9, TX9, 4), (RX10, TX10, 5), (RJ1, TJ1, 3), (RJ16, TJ16, 3), (RJ12, TJ12, 4), (RJ23, TJ23, 1), (RJ5, TJ5, 6), (RJ6, TJ6, 6), (RJ9, TJ9, 6)]
abbrev tysA (dA : Nat → ClassId) : List (ClassId × FieldType) := [(dA 0, .int), (dA 1, .char), (dA 2, .boolean), (dA 3, .long), (dA 4, .object "java/lang/Object"), (dA 5, .object "TaleDuel$State"), (dA 6, .object "TaleDuel$Teller"), (dA 7, .object "TaleDuel$Listener")]
/-- field and class numbers; array classes; the cached boxes; the two static arrays -/
abbrev EVT : Type := va_G × (Nat → ClassId) × (Nat → Nat) × Nat × Nat
def nkW : Cond → Bool
  | .fieldLinkNest _ _ _ _ _ _ => true
  | .methodLinkNest _ _ _ _ => true
  | .castable _ _ => true
  | .arrayOver (.object _) => true
  | _ => false
abbrev fw_ (C I n d : String) : String × MethodName × MethodName := (C, ⟨I, n, d⟩, ⟨C, n, d⟩)
def fwL : List (String × MethodName × MethodName) := [fw_ "java/util/ArrayDeque" "java/util/Deque" "size" "()I", fw_ "java/util/ArrayDeque" "java/util/Deque" "removeFirst" "()Ljava/lang/Object;", fw_ "java/util/ArrayDeque" "java/util/Deque" "addLast" "(Ljava/lang/Object;)V", fw_ "java/util/ArrayDeque" "java/util/Deque" "removeLast" "()Ljava/lang/Object;",
  fw_ "java/util/ArrayList" "java/util/List" "iterator" "()Ljava/util/Iterator;", fw_ "java/util/ArrayList" "java/util/List" "add" "(Ljava/lang/Object;)Z", fw_ "java/util/ArrayList" "java/util/List" "size" "()I", fw_ "java/util/ArrayList" "java/util/List" "get" "(I)Ljava/lang/Object;", fw_ "java/util/ArrayList" "java/util/List" "add" "(ILjava/lang/Object;)V", fw_ "java/util/ArrayList" "java/util/List" "remove" "(I)Ljava/lang/Object;",
  fw_ "java/util/ArrayList$Itr" "java/util/Iterator" "hasNext" "()Z", fw_ "java/util/ArrayList$Itr" "java/util/Iterator" "next" "()Ljava/lang/Object;"]
theorem fwL_ok : ∀ t ∈ fwL, t.2.1.cls ≠ "java/lang/invoke/MethodHandle" ∧ t.2.1.cls ≠ "java/lang/invoke/VarHandle" := by decide +kernel
/-- statics -/
def stG (G : EVT) (A : Nat → Prop) (U : State) (H : Heap) : Prop :=
  va_Z "java/util/ArrayList" "DEFAULTCAPACITY_EMPTY_ELEMENTDATA" "[Ljava/lang/Object;" (.ref G.2.2.2.1) A U H ∧ va_T (.object "java/lang/Object") G.2.2.2.1 0 (fun _ => .null) A U H ∧
  va_Z "java/lang/Integer$IntegerCache" "high" "I" (.int 127) A U H ∧ va_Z "java/lang/Integer$IntegerCache" "cache" "[Ljava/lang/Integer;" (.ref G.2.2.2.2) A U H ∧ va_T (.object "java/lang/Integer") G.2.2.2.2 256 (fun j => .ref (G.2.2.1 j)) A U H ∧ vb_C G.2.2.1 A U H ∧
  vx_Zq Bundle.tN "UNASSIGNED_STACK" Bundle.steD A U H ∧ vx_Zq Bundle.tN "SUPPRESSED_SENTINEL" Bundle.listD A U H
def En (G : EVT) (A : Nat → Prop) (U : State) (H : Heap) : Prop :=
  va_K G.1 clA (tysA G.2.1) U ∧ (∀ w ∈ lw_tbl, nkW w = true → va_Nw w U) ∧ (∀ t ∈ fwL, va_Fw t.1 t.2.1 t.2.2 U) ∧ stG G A U H
theorem stG.moved {G : EVT} {A : Nat → Prop} {u U : State} {H : Heap} (hvm : u.vm.Alike U.vm) (h : stG G A u H) : stG G A U H :=
  ⟨h.1.moved hvm, h.2.1.moved hvm, h.2.2.1.moved hvm, h.2.2.2.1.moved hvm, h.2.2.2.2.1.moved hvm, h.2.2.2.2.2.1.moved hvm, h.2.2.2.2.2.2.1.moved hvm, h.2.2.2.2.2.2.2.moved hvm⟩
theorem stG.kept {G : EVT} {A : Nat → Prop} {U : State} {H H1 : Heap} (h : stG G A U H) (hq : ∀ a : Nat, a < H.size → ¬ A a → H1[a]? = H[a]?) : stG G A U H1 :=
  ⟨h.1.kept hq, h.2.1.kept hq, h.2.2.1.kept hq, h.2.2.2.1.kept hq, h.2.2.2.2.1.kept hq, h.2.2.2.2.2.1.kept hq, h.2.2.2.2.2.2.1.kept hq, h.2.2.2.2.2.2.2.kept hq⟩
theorem stG.narrow {G : EVT} {A B : Nat → Prop} {U : State} {H : Heap} (h : stG G A U H) (hAB : ∀ q, B q → A q) : stG G B U H :=
  ⟨h.1.narrow hAB, h.2.1.narrow hAB, h.2.2.1.narrow hAB, h.2.2.2.1.narrow hAB, h.2.2.2.2.1.narrow hAB, h.2.2.2.2.2.1.narrow hAB, h.2.2.2.2.2.2.1.narrow hAB, h.2.2.2.2.2.2.2.narrow hAB⟩
theorem nk_warm {w : Cond} (hw : nkW w = true) {s U : State} (hW : s.WarmedH U.vm) (h : va_Nw w s) : va_Nw w U := by
  unfold nkW at hw
  split at hw
  · exact va_Nw.warmF hW h
  · exact va_Nw.warmM hW h
  · exact va_Nw.warmC hW h
  · exact va_AO.moved hW.alike h
  · cases hw
theorem En.warm {G : EVT} {A : Nat → Prop} {s U : State} {H : Heap} (hW : s.WarmedH U.vm) (h : En G A s H) : En G A U H :=
  ⟨va_K.moved hW.alike h.1, fun w hw hk => nk_warm hk hW (h.2.1 w hw hk), fun t ht => (h.2.2.1 t ht).moved (fwL_ok t ht) hW.alike, h.2.2.2.moved hW.alike⟩
theorem En.same {G : EVT} {A : Nat → Prop} {u U : State} {H : Heap} (e : u.vm = U.vm) (h : En G A u H) : En G A U H :=
  En.warm (by rw [← e]; exact State.WarmedH.refl u) h
theorem En.kept {G : EVT} {A : Nat → Prop} {U : State} {H H1 : Heap} (h : En G A U H) (hq : ∀ a : Nat, a < H.size → ¬ A a → H1[a]? = H[a]?) : En G A U H1 := ⟨h.1, h.2.1, h.2.2.1, h.2.2.2.kept hq⟩
theorem En.narrow {G : EVT} {A B : Nat → Prop} {U : State} {H : Heap} (h : En G A U H) (hAB : ∀ q, B q → A q) : En G B U H := ⟨h.1, h.2.1, h.2.2.1, h.2.2.2.narrow hAB⟩
/-- a contract's start -/
def SPc (G : EVT) (F : Nat → Prop) (sz : Nat) (as : List Value) (Ps : List Asn) (Φ : Heap → Prop) : Array Value → State → Prop :=
  va_Pc as (fun U => U.heap.size = sz ∧ Sep G.1 clA (Fz F sz) Ps U.heap ∧ Φ U.heap ∧ En G (Fz F sz) U U.heap)
theorem SPc.blind {G : EVT} {F : Nat → Prop} {sz : Nat} {as : List Value} {Ps : List Asn} {Φ : Heap → Prop} : FrameBlind (SPc G F sz as Ps Φ) := by
  intro a U g mk h
  obtain ⟨h1, h2, h3, h4, h5⟩ := h
  exact ⟨h1, h2, h3, h4, h5.same (u := U) (U := U.calling g mk a) rfl⟩
theorem sp_now {G : EVT} {A F : Nat → Prop} {s U : State} {H : Heap} {locs : List Loc} (hE : En G A s s.heap) (hS : va_S A s.heap H locs) (hFA : ∀ q, Fz F H.size q → A q) (hW : s.WarmedH U.vm) : En G (Fz F H.size) U H :=
  ((hE.kept hS.2.1).narrow hFA).warm hW
theorem sp_preS {G : EVT} {A F : Nat → Prop} {s : State} {H : Heap} {locs : List Loc} {as : List Value} {Ps : List Asn} {Φ : Heap → Prop} (hE : En G A s s.heap) (hS : va_S A s.heap H locs) (hFA : ∀ q, Fz F H.size q → A q) (hP : Sep G.1 clA (Fz F H.size) Ps H) (hΦ : Φ H) : PreS s H (SPc G F H.size as Ps Φ) as :=
  ⟨SPc.blind, fun U hU hW => ⟨rfl, by rw [hU], by rw [hU]; exact hP, by rw [hU]; exact hΦ, by rw [hU]; exact sp_now hE hS hFA hW⟩⟩
theorem sp_preV {G : EVT} {A F : Nat → Prop} {s : State} {H : Heap} {locs : List Loc} {C : String} {b : Nat} {as : List Value} {Ps : List Asn} {Φ : Heap → Prop} (hE : En G A s s.heap) (hS : va_S A s.heap H locs) (hFA : ∀ q, Fz F H.size q → A q) (hP : Sep G.1 clA (Fz F H.size) Ps H) (hΦ : Φ H) (hr : ∃ cellB : Cell, H[b]? = some cellB ∧ cellB.vm.isStatics = false ∧ s.vm.findClass C = some cellB.cls) : PreV s H C b (SPc G F H.size (.ref b :: as) Ps Φ) as :=
  ⟨SPc.blind, hr, (sp_preS hE hS hFA hP hΦ).2⟩
/-- a contract's end, by the kind of the answer -/
abbrev SQi {S : Type} (G : EVT) (F : Nat → Prop) (sz : Nat) (post : Int32 → S → Prop) (Qs : S → List Asn) : Array Value → State → Outcome → State → Prop := va_Qi post (fun u t => Sep G.1 clA (Fz F sz) (Qs u) t.heap) (Fz F sz)
abbrev SQl {S : Type} (G : EVT) (F : Nat → Prop) (sz : Nat) (post : Int64 → S → Prop) (Qs : S → List Asn) : Array Value → State → Outcome → State → Prop := va_Ql post (fun u t => Sep G.1 clA (Fz F sz) (Qs u) t.heap) (Fz F sz)
abbrev SQv {S : Type} (G : EVT) (F : Nat → Prop) (sz : Nat) (post : S → Prop) (Qs : S → List Asn) : Array Value → State → Outcome → State → Prop := va_Qv post (fun u t => Sep G.1 clA (Fz F sz) (Qs u) t.heap) (Fz F sz)
abbrev SQr {S : Type} (G : EVT) (F : Nat → Prop) (sz : Nat) (post : S → Prop) (Qs : S → Nat → List Asn) : Array Value → State → Outcome → State → Prop := va_Qr post (fun u a t => Sep G.1 clA (Fz F sz) (Qs u a) t.heap) (Fz F sz)
abbrev SQq {S : Type} (G : EVT) (F : Nat → Prop) (sz : Nat) (post : Option Nat → S → Prop) (Qs : S → List Asn) : Array Value → State → Outcome → State → Prop := va_Qq post (fun u t => Sep G.1 clA (Fz F sz) (Qs u) t.heap) (Fz F sz)
/-- a method's body, with all that holds at its entry -/
theorem sp_of {l : Launch} {y : MethodName} {cc : ByteArray} {maxL : Nat} {ret : Option FieldType} {rm : Room} {G : EVT} {F : Nat → Prop} {sz : Nat} {as : List Value} {Ps : List Asn} {Φ : Heap → Prop} {Qc : Array Value → State → Outcome → State → Prop} {mc ms : Nat} (own : String) (hy : plainName y.cls = true) (ho : y.cls = own) (hlen : (lg_sl as).length ≤ maxL)
    (body : ∀ (p : Program) (e : Env) (s : State) (m : MethodId) (args : Array Value) (below : List Frame) (meth : Method) (c : Code) (ls : Array Slot) (QQ : State → Prop), p.tables.exec = Jvm.exec → c.code = cc → meth.sig.returnType = ret → (∀ w ∈ lw_all, w.before args s = true) → s.vm.findClass own = some m.cls → meth.locks = false → c.maxLocals = maxL → meth.name = y.name → s.heap.size = sz →
      Sep G.1 clA (Fz F sz) Ps s.heap → Φ s.heap → En G (Fz F sz) s s.heap → va_S (Fz F sz) s.heap s.heap [] → lv_has ls maxL (lv_args 0 as) → QQ = MQ below Qc args s mc ms (Fz F sz) →
      W p l e rm s m args below meth c s.heap [] 0 0 QQ (F0 m 0 ls [])) :
    Met l y (ws_ y cc maxL ret) rm (SPc G F sz as Ps Φ) Qc mc ms (Fz F sz) := by
  subst ho
  refine Met.ofW (cc := cc) (maxL := maxL) (ret := ret) hy rfl ?_
  intro p e s m args below meth c s₁ B hml hv
  obtain ⟨rfl, hsz, hSep, hΦ, hE⟩ := hv
  have hts := atoms_spec (ws := ws_ y cc maxL ret) B.pre
  have hts : ∀ w ∈ lw_all, w.before _ s = true := fun w h => hts w (List.mem_cons_of_mem _ h)
  rw [lg_entry_eq]
  exact body p e s m _ below meth c _ _ B.exec B.bytes B.returns hts (findClass_of_methodNamed B.named) B.notSynchronized hml (name_of_methodNamed B.named B.method).1 hsz hSep hΦ hE va_S.rf (lv_entry as hlen) rfl
