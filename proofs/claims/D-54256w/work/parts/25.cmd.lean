/-! COMMANDS and steps of a simulation, as values -/
set_option maxRecDepth 100000
def gCanTell (g : GS) (T : List Nat) (t : Nat) : Bool := decide (g.1 0 ≠ nI 0 ∧ rd 0 [] T = none ∧ ∀ w ∈ tW T, w ∉ gB g t)
def gCanTellN (g : GS) (T : List Nat) : Bool := gOn g && (decide (g.1 2 = nI 0) && gCanTell g T (gTurn g))
theorem gPts_le (g : GS) (s : List Nat) : ∀ l, gPts g s l ≤ l * s.length
  | 0 => by simp [gPts]
  | l + 1 => by
    have h1 := gPts_le g s l
    have h2 := hearN_le g l s
    rw [gPts, Nat.succ_mul]
    split <;> omega
theorem n1_nI (n : Nat) (h : n < 2 ^ 31) : ¬ nI n < -1 := by
  rw [Int32.lt_iff_toInt_lt, nI_toInt h]
  have : (-1 : Int32).toInt = -1 := by decide
  omega
theorem gNextV_ge {g : GS} (ho : gOk g) : ¬ gNextV g < -1 := by
  unfold gNextV
  split
  · decide
  · rw [gTurn_eq ho]
    exact n1_nI _ (by have := gTurn_lt g; omega)
/-- a step of a simulation -/
noncomputable def gStir (g : GS) (r : Nat) : GS :=
  if r % 8 = 0 then gDone g
  else if r % 8 = 1 ∧ g.1 2 = nI 1 then (if gCan g (r / 8 % 18) then gForbid g (r / 8 % 18) else gDone g)
  else (gPlay g).1
/-- a command: whether it succeeds, and what it leaves -/
noncomputable def gCmd (g : GS) (T : List Nat) (how a b : Nat) : Bool × GS :=
  if how = 1 then (if 10 * a + b = 0 ∧ gCanTellN g T = true then (true, gTell g (tW T)) else (false, g))
  else if how = 2 then (if 10 * a + b < 18 ∧ gCan g (10 * a + b) = true then (true, gForbid g (10 * a + b)) else (false, g))
  else if how = 3 then (if 10 * a + b = 0 ∧ gOn g = true then (true, gDone g) else (false, g))
  else if how = 4 then (if 10 * a + b = 0 ∧ gOn g = true then (true, (gPlay g).1) else (false, g))
  else if how = 5 then (if a = 0 ∧ setOk (nI 0) (nI b) = true then (true, gset g 7 (nI b)) else (false, g))
  else if how = 6 then (decide (a < 2 ∧ nI b ≤ g.1 (23 + 15 * a)), g)
  else if how = 7 then (decide (g.1 0 = nI 1 ∧ 10 * a + b < 18 ∧ 10 * a + b ∈ gRem g), g)
  else if how = 8 then (decide (g.1 0 = nI 1 ∧ a < 2 ∧ b ∈ gB g a), g)
  else if how = 9 then (decide (g.1 0 = nI 1 ∧ a = 0 ∧ b < 3 ∧ gThere g b = true), g)
  else (false, g)
theorem inR_nat {k n : Nat} (hk : k < 2 ^ 31) : inR (nI k).toInt 0 n = decide (k ≤ n) := by
  unfold inR
  rw [nI_toInt hk]
  by_cases h : k ≤ n
  · rw [decide_eq_true h, decide_eq_true (by omega)]
  · rw [decide_eq_false h, decide_eq_false (by omega)]
theorem gBan_pos {g : GS} (ho : gOk g) (w : Nat) : 0 < (gB (gBan g w) (1 - gTurn g)).length ∧ (gB (gBan g w) (1 - gTurn g)).length < 1000 := by
  have h := gBans_ok ho
  rw [gB_ban, banL_len]
  simp
  omega
section CMD
variable (g : GS) (T : List Nat) (a b : Nat)
theorem gCmd_0 : gCmd g T 0 a b = (false, g) := by simp [gCmd]
theorem gCmd_1 : gCmd g T 1 a b = if 10 * a + b = 0 ∧ gCanTellN g T = true then (true, gTell g (tW T)) else (false, g) := by unfold gCmd; rw [if_pos rfl]
theorem gCmd_2 : gCmd g T 2 a b = if 10 * a + b < 18 ∧ gCan g (10 * a + b) = true then (true, gForbid g (10 * a + b)) else (false, g) := by unfold gCmd; rw [if_neg (by decide), if_pos rfl]
theorem gCmd_3 : gCmd g T 3 a b = if 10 * a + b = 0 ∧ gOn g = true then (true, gDone g) else (false, g) := by unfold gCmd; rw [if_neg (by decide), if_neg (by decide), if_pos rfl]
theorem gCmd_4 : gCmd g T 4 a b = if 10 * a + b = 0 ∧ gOn g = true then (true, (gPlay g).1) else (false, g) := by unfold gCmd; rw [if_neg (by decide), if_neg (by decide), if_neg (by decide), if_pos rfl]
theorem gCmd_5 : gCmd g T 5 a b = if a = 0 ∧ setOk (nI 0) (nI b) = true then (true, gset g 7 (nI b)) else (false, g) := by unfold gCmd; rw [if_neg (by decide), if_neg (by decide), if_neg (by decide), if_neg (by decide), if_pos rfl]
theorem gCmd_6 : gCmd g T 6 a b = (decide (a < 2 ∧ nI b ≤ g.1 (23 + 15 * a)), g) := by unfold gCmd; rw [if_neg (by decide), if_neg (by decide), if_neg (by decide), if_neg (by decide), if_neg (by decide), if_pos rfl]
theorem gCmd_7 : gCmd g T 7 a b = (decide (g.1 0 = nI 1 ∧ 10 * a + b < 18 ∧ 10 * a + b ∈ gRem g), g) := by unfold gCmd; rw [if_neg (by decide), if_neg (by decide), if_neg (by decide), if_neg (by decide), if_neg (by decide), if_neg (by decide), if_pos rfl]
theorem gCmd_8 : gCmd g T 8 a b = (decide (g.1 0 = nI 1 ∧ a < 2 ∧ b ∈ gB g a), g) := by unfold gCmd; rw [if_neg (by decide), if_neg (by decide), if_neg (by decide), if_neg (by decide), if_neg (by decide), if_neg (by decide), if_neg (by decide), if_pos rfl]
theorem gCmd_9 : gCmd g T 9 a b = (decide (g.1 0 = nI 1 ∧ a = 0 ∧ b < 3 ∧ gThere g b = true), g) := by unfold gCmd; rw [if_neg (by decide), if_neg (by decide), if_neg (by decide), if_neg (by decide), if_neg (by decide), if_neg (by decide), if_neg (by decide), if_neg (by decide), if_pos rfl]
end CMD
theorem gCanTellN_sent {g : GS} {T : List Nat} (h : gCanTellN g T = true) : Sent (tW T) := by
  unfold gCanTellN gCanTell at h
  simp only [Bool.and_eq_true, decide_eq_true_eq] at h
  exact rd_sent h.2.2.2.1
