/-! SLOTS, SCRIPTS, SIMULATIONS: plain laws -/
set_option maxRecDepth 100000
theorem rnd_bv (x : Int64) : (rnd x).toBitVec = (x.toBitVec >>> 33).setWidth 32 := by
  unfold rnd
  have h : (nI 33).toInt64.toUInt64 &&& Int64.toUInt64 63 = 33 := by decide
  rw [h]
  show BitVec.signExtend 32 (x.toUInt64 >>> 33).toBitVec = _
  rw [BitVec.signExtend_eq_setWidth_of_le _ (by decide), UInt64.toBitVec_shiftRight]
  rfl
theorem rnd_nat (x : Int64) : (rnd x).toInt.toNat < 2 ^ 31 ∧ rnd x = nI (rnd x).toInt.toNat := by
  have h1 := rnd_bv x
  have h2 : (rnd x).toBitVec.toNat < 2 ^ 31 := by
    rw [h1, BitVec.toNat_setWidth, BitVec.toNat_ushiftRight]
    have := x.toBitVec.isLt
    rw [Nat.shiftRight_eq_div_pow]
    have h3 : x.toBitVec.toNat / 2 ^ 33 < 2 ^ 31 := by omega
    omega
  have h3 : (rnd x).toInt = (rnd x).toBitVec.toNat := by
    show (rnd x).toBitVec.toInt = _
    rw [BitVec.toInt_eq_toNat_cond]
    split <;> omega
  have h4 : (rnd x).toInt.toNat < 2 ^ 31 := by omega
  refine ⟨h4, ?_⟩
  apply Int32.toInt_inj.mp
  rw [nI_toInt h4]
  omega
def keptC (kp : Nat → Option GS) (fK fZ : Nat → Int32) : Prop := ∀ t, t < 2 → fZ t = bI (kp t).isSome ∧ ∀ g, kp t = some g → gV g ∧ Enc (fun i => fK (89 * t + i)) g
theorem keptC.put {kp : Nat → Option GS} {fK fZ fN : Nat → Int32} {g : GS} {n : Nat} (h : keptC kp fK fZ) (hn : n < 2) (hg : gV g) (he : Enc fN g) : keptC (fun t => if t = n then some g else kp t) (va_cpy fN fK 0 (89 * n) 89) (upd fZ n (bI true)) := by
  intro t ht
  dsimp only
  by_cases e : t = n
  · subst e
    rw [if_pos rfl]
    refine ⟨upd_s rfl, fun g2 h2 => ?_⟩
    cases h2
    refine ⟨hg, he.congr hg.1 (fun i hi => ?_)⟩
    rw [pk_cpy_in (by omega) (by omega)]
    congr 1
    omega
  · rw [if_neg e]
    obtain ⟨h1, h2⟩ := h t ht
    refine ⟨by rw [upd_n e]; exact h1, fun g2 h3 => ?_⟩
    obtain ⟨h4, h5⟩ := h2 g2 h3
    exact ⟨h4, h5.congr h4.1 (fun i hi => pk_cpy_out (by omega))⟩
theorem keptC.get {kp : Nat → Option GS} {fK fZ fN : Nat → Int32} {g : GS} {n : Nat} (h : keptC kp fK fZ) (hn : n < 2) (hg : kp n = some g) : gV g ∧ Enc (va_cpy fK fN (89 * n) 0 89) g := by
  obtain ⟨h4, h5⟩ := (h n hn).2 g hg
  refine ⟨h4, h5.congr h4.1 (fun i hi => ?_)⟩
  rw [pk_cpy_in (by omega) (by omega)]
  rfl
theorem gSim_on {y : Int64} {f k : Nat} {g : GS} (h : gOn g = true) : gSim y (f + 1) k g = gSim y f (k + 1) (gStir g (rnd (lcgN y (k + 1))).toInt.toNat) := by rw [gSim, if_pos h]
theorem gSim_off {y : Int64} {f k : Nat} {g : GS} (h : gOn g = false) : gSim y f k g = g := by
  cases f with
  | zero => rfl
  | succ f => rw [gSim, if_neg (by rw [h]; decide)]
theorem gSim_pt {y : Int64} {n k : Nat} {g g0 : GS} (h : gSim y n 0 g0 = gSim y (n - k) k g) (hk : k < n) (ho : gOn g = true) : gSim y n 0 g0 = gSim y (n - (k + 1)) (k + 1) (gStir g (rnd (lcgN y (k + 1))).toInt.toNat) := by
  rw [h, show n - k = (n - (k + 1)) + 1 by omega, gSim_on ho]
def grp (n v k : Nat) : Nat := v / 1000 ^ (n - 1 - k) % 1000
theorem gScr_s {T : List Nat} {n v k : Nat} {g g0 : GS} (h : gScr T n v n 0 g0 = gScr T n v (n - k) k g) (hk : k < n) (hc : (gCmd g T (grp n v k / 100) (grp n v k / 10 % 10) (grp n v k % 10)).1 = true) : gScr T n v n 0 g0 = gScr T n v (n - (k + 1)) (k + 1) (gCmd g T (grp n v k / 100) (grp n v k / 10 % 10) (grp n v k % 10)).2 := by
  rw [h, show n - k = (n - (k + 1)) + 1 by omega, gScr]
  unfold grp at *
  rw [if_pos hc]
theorem gScr_n {T : List Nat} {n v k : Nat} {g g0 : GS} (h : gScr T n v n 0 g0 = gScr T n v (n - k) k g) (hk : k < n) (hc : (gCmd g T (grp n v k / 100) (grp n v k / 10 % 10) (grp n v k % 10)).1 = false) : gScr T n v n 0 g0 = nI k := by
  rw [h, show n - k = (n - (k + 1)) + 1 by omega, gScr]
  unfold grp at hc
  rw [if_neg (fun h9 => absurd (h9.symm.trans hc) (by decide))]
theorem th_le {k : Nat} (h : k ≤ 3) : 1 ≤ 1000 ^ k ∧ 1000 ^ k ≤ 1000000000 := by
  rcases (show k = 0 ∨ k = 1 ∨ k = 2 ∨ k = 3 by omega) with rfl | rfl | rfl | rfl <;> decide
theorem th_div {k : Nat} : 1000 ^ (k + 1) / 1000 = 1000 ^ k := by rw [Nat.pow_succ, Nat.mul_div_cancel _ (by decide)]
theorem inL_n {x : Int64} {j : Nat} (hj : j ≤ 3) (h : inR x.toInt 0 (1000 ^ j - 1) = true) : ∃ v : Nat, v < 2 ^ 63 ∧ v < 1000 ^ j ∧ x = lN v := by
  have h1 := of_decide_eq_true h
  have h2 := th_le hj
  have e : ((1000 ^ j : Nat) : Int) = (1000 : Int) ^ j := by simp
  refine ⟨x.toInt.toNat, by omega, by omega, ?_⟩
  apply Int64.toInt_inj.mp
  rw [pk_lT (by omega)]
  omega
theorem gainN_bn (g : GS) (t n : Nat) {f : Nat → Int32} (h : ∀ w, w < 18 → f w = gI (bnG g t) (gain g) w) : ∀ w, w < 18 → upd f n (-1) w = gI (fun v => decide (v = n) || bnG g t v) (gain g) w := by
  intro w hw
  by_cases e : w = n
  · rw [upd_s e]
    unfold gI
    rw [if_pos (by simp [e])]
  · rw [upd_n e, h w hw]
    unfold gI
    simp [e]
theorem ptI_m {P : Nat} (hP : P < 1000) : ptI P = -1 ↔ P = 0 := by
  constructor
  · intro h
    have := ptI_toInt (P := P) (by omega)
    rw [h] at this
    have h2 : (-1 : Int32).toInt = -1 := rfl
    omega
  · rintro rfl
    rfl
theorem th_int {j : Nat} (h : j ≤ 3) : (lN (1000 ^ j) - 1).toInt = (1000 : Int) ^ j - 1 := by
  rcases (show j = 0 ∨ j = 1 ∨ j = 2 ∨ j = 3 by omega) with rfl | rfl | rfl | rfl <;> decide
theorem lN_nz {k : Nat} (h : k ≤ 3) : lN (1000 ^ k) ≠ 0 := by
  rcases (show k = 0 ∨ k = 1 ∨ k = 2 ∨ k = 3 by omega) with rfl | rfl | rfl | rfl <;> decide
/-- the value at the start -/
def g0s : GS := (fun i => if i = 10 then nI 30 else if i = 9 then nI 3 else if i = 8 then nI 3 else if i = 7 then nI 3 else nI 0, fun _ => [], fun _ => [], [])
theorem gV_0 : gV g0s := by
  refine ⟨⟨Or.inl rfl, Or.inl rfl, Or.inl rfl, Or.inl rfl, Or.inl rfl, ⟨3, by decide, rfl⟩, ⟨3, by decide, by decide, rfl⟩, ⟨3, by decide, by decide, rfl⟩, ⟨30, by decide, by decide, rfl⟩, fun i hi => Or.inl ?_, fun t ht => ⟨Nat.zero_le _, fun w hw => absurd hw List.not_mem_nil⟩, fun t ht => ⟨Nat.zero_le _, fun w hw => absurd hw List.not_mem_nil⟩, Nat.zero_le _, fun l hl => absurd hl List.not_mem_nil⟩, fun _ => ⟨fun i hi => ?_, fun i h1 h2 => ?_, fun t ht => ⟨?_, ?_, rfl, rfl⟩, rfl⟩⟩
  all_goals
    unfold g0s
    dsimp only
    rw [if_neg (by omega), if_neg (by omega), if_neg (by omega), if_neg (by omega)]
theorem Enc_0 : Enc (upd (upd (upd (upd (fun _ => nI 0) 7 (nI 3)) 8 (nI 3)) 9 (nI 3)) 10 (nI 30)) g0s := by
  have e : ∀ i, upd (upd (upd (upd (fun _ => nI 0) 7 (nI 3)) 8 (nI 3)) 9 (nI 3)) 10 (nI 30) i = g0s.1 i := fun i => rfl
  have z : ∀ i, 11 ≤ i → g0s.1 i = nI 0 := fun i hi => by
    unfold g0s
    dsimp only
    rw [if_neg (by omega), if_neg (by omega), if_neg (by omega), if_neg (by omega)]
  have eG : ∀ j, gLog g0s j = [] := fun j => by unfold gLog g0s; simp
  refine ⟨fun i _ => e i, fun t ht => ⟨e _, e _⟩, fun t ht => ⟨?_, fun k hk => absurd hk (Nat.not_lt_zero _)⟩, fun t ht => ⟨?_, fun k hk => absurd hk (Nat.not_lt_zero _)⟩, fun j hj => ?_⟩
  · rw [e, z _ (by omega)]; rfl
  · rw [e, z _ (by omega)]; rfl
  · rw [eG]
    exact ⟨by rw [e, z _ (by omega)]; rfl, fun k hk => absurd hk (Nat.not_lt_zero _)⟩
def σ0 : MS := (g0s, [], fun _ => none, [])
theorem modC_0 (fT fD fK : Nat → Int32) : modC σ0 fT (upd (upd (upd (upd (fun _ => nI 0) 7 (nI 3)) 8 (nI 3)) 9 (nI 3)) 10 (nI 30)) fD fK (fun _ => bI false) :=
  ⟨⟨gV_0, Enc_0⟩, ⟨Nat.zero_le _, fun j h => absurd h (Nat.not_lt_zero _)⟩, fun t ht => ⟨rfl, fun g h => (by cases h)⟩, Pre.nil, Nat.zero_le _, fun w h => absurd h List.not_mem_nil⟩
