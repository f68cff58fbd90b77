/-! THE GAME as a value: what both programs hold -/
set_option maxRecDepth 100000
/-- numbers by their places in the reference's row; forbidden words; latest sentences; the log -/
abbrev GS : Type := (Nat → Int32) × (Nat → List Nat) × (Nat → List Nat) × List (List Nat)
def gB (g : GS) (t : Nat) : List Nat := g.2.1 t
def gL (g : GS) (t : Nat) : List Nat := g.2.2.1 t
def gLog (g : GS) (k : Nat) : List Nat := (g.2.2.2[k]?).getD []
def gMem (g : GS) : Nat := (g.1 7).toNatClampNeg
/-- the words that are remembered -/
def gRem (g : GS) : List Nat := (g.2.2.2.take (gMem g)).flatten
theorem gRem_mem {g : GS} {w : Nat} : w ∈ gRem g ↔ ∃ k, k < gMem g ∧ w ∈ gLog g k := by
  unfold gRem gLog
  rw [List.mem_flatten]
  constructor
  · rintro ⟨l, hl, hw⟩
    obtain ⟨k, hk⟩ := List.getElem?_of_mem hl
    rw [List.getElem?_take] at hk
    split at hk
    · exact ⟨k, by assumption, by rw [hk]; exact hw⟩
    · cases hk
  · rintro ⟨k, hk, hw⟩
    cases h : g.2.2.2[k]? with
    | none => rw [h] at hw; simp at hw
    | some l =>
      rw [h] at hw
      refine ⟨l, List.mem_of_getElem? (i := k) ?_, hw⟩
      rw [List.getElem?_take, if_pos hk, h]
/-- a bit of a set -/
def bitI (x : Int32) (k : Nat) : Bool := x.toBitVec.getLsbD k
theorem shamt {w : Nat} (hw : w < 32) : (BitVec.smod (nI w).toBitVec 32#32).toNat = w := by
  have h1 : (nI w).toBitVec = BitVec.ofNat 32 w := rfl
  rw [h1]
  have : ∀ v : Fin 32, (BitVec.smod (BitVec.ofNat 32 v.val) 32#32).toNat = v.val := by decide
  exact this ⟨w, hw⟩
theorem sh31 {w : Nat} (hw : w < 32) : nI w &&& 31 = nI w := by
  rw [pk_andN (m := 31) (by omega) 5 (by decide), Nat.mod_eq_of_lt (by omega)]
theorem bit_shr (x : Int32) {w : Nat} (hw : w < 32) : (x >>> (nI w &&& 31)) &&& nI 1 = bI (bitI x w) := by
  rw [sh31 hw]
  apply Int32.toBitVec_inj.mp
  rw [Int32.toBitVec_and, Int32.toBitVec_shiftRight]
  apply BitVec.eq_of_getLsbD_eq
  intro i hi
  have e1 : (nI 1).toBitVec = 1#32 := rfl
  have e2 : x.toBitVec.sshiftRight' ((nI w).toBitVec.smod 32) = x.toBitVec.sshiftRight w := by
    rw [BitVec.sshiftRight']
    congr 1
    exact shamt hw
  rw [BitVec.getLsbD_and, e1, e2]
  unfold bI bitI
  by_cases h0 : i = 0
  · subst h0
    rw [BitVec.getLsbD_sshiftRight]
    cases h : x.toBitVec.getLsbD w
    · simp [h]
      omega
    · simp [h]
      omega
  · have : (1#32).getLsbD i = false := by
      simp [BitVec.getLsbD_one, h0]
    rw [this, Bool.and_false]
    split
    · show false = (1#32).getLsbD i
      rw [this]
    · show false = (0#32).getLsbD i
      simp
/-- the reference's row holds the game -/
def Enc (f : Nat → Int32) (g : GS) : Prop :=
  (∀ i, i < 23 → f i = g.1 i) ∧ (∀ t, t < 2 → f (23 + 15 * t) = g.1 (23 + 15 * t) ∧ f (24 + 15 * t) = g.1 (24 + 15 * t)) ∧
  (∀ t, t < 2 → f (25 + 15 * t) = nI (gB g t).length ∧ ∀ k, k < (gB g t).length → f (26 + 15 * t + k) = nI ((gB g t).getD k 0)) ∧
  (∀ t, t < 2 → f (32 + 15 * t) = nI (gL g t).length ∧ ∀ k, k < (gL g t).length → f (33 + 15 * t + k) = nI ((gL g t).getD k 0)) ∧
  ∀ j, j < 6 → f (53 + 6 * j) = nI (gLog g j).length ∧ ∀ k, k < (gLog g j).length → f (54 + 6 * j + k) = nI ((gLog g j).getD k 0)
/-- numbers in their ranges -/
def gOk (g : GS) : Prop :=
  (g.1 0 = nI 0 ∨ g.1 0 = nI 1) ∧ (g.1 1 = nI 0 ∨ g.1 1 = nI 1) ∧ (g.1 2 = nI 0 ∨ g.1 2 = nI 1) ∧ (g.1 5 = nI 0 ∨ g.1 5 = nI 1) ∧ (g.1 6 = nI 0 ∨ g.1 6 = nI 1) ∧
  (∃ m, m ≤ 6 ∧ g.1 7 = nI m) ∧ (∃ m, 1 ≤ m ∧ m ≤ 9 ∧ g.1 8 = nI m) ∧ (∃ m, 1 ≤ m ∧ m ≤ 5 ∧ g.1 9 = nI m) ∧ (∃ m, 5 ≤ m ∧ m ≤ 99 ∧ g.1 10 = nI m) ∧
  (∀ i, i < 3 → g.1 (17 + i) = nI 0 ∨ g.1 (17 + i) = nI 1) ∧
  (∀ t, t < 2 → (gB g t).length ≤ 5 ∧ (∀ w ∈ gB g t, w < 18)) ∧ (∀ t, t < 2 → (gL g t).length ≤ 5 ∧ (∀ w ∈ gL g t, w < 18)) ∧
  g.2.2.2.length ≤ 6 ∧ (∀ l ∈ g.2.2.2, l.length ≤ 5 ∧ ∀ w ∈ l, w < 18)
theorem gLog_ok {g : GS} (h : gOk g) (k : Nat) : (gLog g k).length ≤ 5 ∧ ∀ w ∈ gLog g k, w < 18 := by
  unfold gLog
  cases e : g.2.2.2[k]? with
  | none => simp
  | some l => exact h.2.2.2.2.2.2.2.2.2.2.2.2.2 l (List.mem_of_getElem? e)
theorem gMem_ok {g : GS} (h : gOk g) : gMem g ≤ 6 ∧ g.1 7 = nI (gMem g) := by
  obtain ⟨m, hm, e⟩ := h.2.2.2.2.2.1
  have : gMem g = m := by unfold gMem; rw [e]; exact nI_clamp (by omega)
  rw [this]
  exact ⟨hm, e⟩
theorem getD_mem {l : List Nat} {k : Nat} (h : k < l.length) : l.getD k 0 ∈ l := by
  rw [List.getD_eq_getElem?_getD, List.getElem?_eq_getElem h]
  exact List.getElem_mem h
theorem mem_getD {l : List Nat} {w : Nat} (h : w ∈ l) : ∃ k, k < l.length ∧ l.getD k 0 = w := by
  obtain ⟨k, hk, e⟩ := List.mem_iff_getElem.mp h
  exact ⟨k, hk, by rw [List.getD_eq_getElem?_getD, List.getElem?_eq_getElem hk]; exact e⟩
theorem Enc.num {f : Nat → Int32} {g : GS} (h : Enc f g) {i : Nat} (hi : i < 23) : f i = g.1 i := h.1 i hi
theorem Enc.sc {f : Nat → Int32} {g : GS} (h : Enc f g) {t i : Nat} (ht : t < 2) (hi : i = 23 + 15 * t) : f i = g.1 (23 + 15 * t) := by rw [hi]; exact (h.2.1 t ht).1
theorem Enc.own {f : Nat → Int32} {g : GS} (h : Enc f g) {t i : Nat} (ht : t < 2) (hi : i = 24 + 15 * t) : f i = g.1 (24 + 15 * t) := by rw [hi]; exact (h.2.1 t ht).2
theorem Enc.bn {f : Nat → Int32} {g : GS} (h : Enc f g) {t i : Nat} (ht : t < 2) (hi : i = 25 + 15 * t) : f i = nI (gB g t).length := by rw [hi]; exact (h.2.2.1 t ht).1
theorem Enc.b {f : Nat → Int32} {g : GS} (h : Enc f g) {t i k : Nat} (ht : t < 2) (hk : k < (gB g t).length) (hi : i = 26 + 15 * t + k) : f i = nI ((gB g t).getD k 0) := by rw [hi]; exact (h.2.2.1 t ht).2 k hk
theorem Enc.ln {f : Nat → Int32} {g : GS} (h : Enc f g) {t i : Nat} (ht : t < 2) (hi : i = 32 + 15 * t) : f i = nI (gL g t).length := by rw [hi]; exact (h.2.2.2.1 t ht).1
theorem Enc.l {f : Nat → Int32} {g : GS} (h : Enc f g) {t i k : Nat} (ht : t < 2) (hk : k < (gL g t).length) (hi : i = 33 + 15 * t + k) : f i = nI ((gL g t).getD k 0) := by rw [hi]; exact (h.2.2.2.1 t ht).2 k hk
theorem Enc.gn {f : Nat → Int32} {g : GS} (h : Enc f g) {j i : Nat} (hj : j < 6) (hi : i = 53 + 6 * j) : f i = nI (gLog g j).length := by rw [hi]; exact (h.2.2.2.2 j hj).1
theorem Enc.g {f : Nat → Int32} {g : GS} (h : Enc f g) {j i k : Nat} (hj : j < 6) (hk : k < (gLog g j).length) (hi : i = 54 + 6 * j + k) : f i = nI ((gLog g j).getD k 0) := by rw [hi]; exact (h.2.2.2.2 j hj).2 k hk
theorem gB_ok {g : GS} (h : gOk g) {t : Nat} (ht : t < 2) : (gB g t).length ≤ 5 ∧ ∀ w ∈ gB g t, w < 18 := h.2.2.2.2.2.2.2.2.2.2.1 t ht
theorem gL_ok {g : GS} (h : gOk g) {t : Nat} (ht : t < 2) : (gL g t).length ≤ 5 ∧ ∀ w ∈ gL g t, w < 18 := h.2.2.2.2.2.2.2.2.2.2.2.1 t ht
theorem getD_lt {l : List Nat} {N k : Nat} (h : ∀ w ∈ l, w < N) (hk : k < l.length) : l.getD k 0 < N := h _ (getD_mem hk)
theorem nI_inj {a b : Nat} (ha : a < 2 ^ 31) (hb : b < 2 ^ 31) (h : nI a = nI b) : a = b := (nI_eq ha hb).mp h
def gOn (g : GS) : Bool := decide (g.1 0 = nI 1 ∧ g.1 5 = nI 0)
def gThere (g : GS) (l : Nat) : Bool := decide (g.1 (17 + l) = nI 1)
/-- a word of the log; none -/
def lgV (g : GS) (k i : Nat) : Int32 := if i < (gLog g k).length then nI ((gLog g k).getD i 0) else -1
theorem gLog_out {g : GS} (h : gOk g) {k : Nat} (hk : 6 ≤ k) : gLog g k = [] := by
  have h1 := h.2.2.2.2.2.2.2.2.2.2.2.2.1
  unfold gLog
  rw [List.getElem?_eq_none (by omega)]
  rfl
theorem lgV_eq {g : GS} (h : gOk g) {k i w : Nat} (hw : w < 2 ^ 31) : lgV g k i = nI w ↔ i < (gLog g k).length ∧ (gLog g k).getD i 0 = w := by
  unfold lgV
  constructor
  · intro e
    split at e
    · rename_i hi
      exact ⟨hi, nI_inj (by have := getD_lt (gLog_ok h k).2 hi; omega) hw e⟩
    · exfalso
      have := nI_pos hw
      rw [← e] at this
      exact this (by decide)
  · rintro ⟨hi, rfl⟩
    rw [if_pos hi]
/-- a long or int lies in a range -/
def inR (x lo hi : Int) : Bool := decide (lo ≤ x ∧ x ≤ hi)
theorem fb_rngX (x : Int32) : -2147483648 ≤ x.toInt ∧ x.toInt < 2147483648 := ⟨Int32.le_toInt x, Int32.toInt_lt x⟩
theorem inR_n {x : Int32} {n : Nat} (h : inR x.toInt 0 n = true) : ∃ k : Nat, k ≤ n ∧ k < 2 ^ 31 ∧ x = nI k := by
  have h1 := of_decide_eq_true h
  have h2 := fb_rngX x
  refine ⟨x.toInt.toNat, by omega, by omega, ?_⟩
  apply Int32.toInt_inj.mp
  rw [nI_toInt (by omega)]
  omega
