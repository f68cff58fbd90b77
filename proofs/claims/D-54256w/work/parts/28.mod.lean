/-! THE OBJECT as a value: what stands, what went before, what is kept, the text; what each call answers and leaves -/
set_option maxRecDepth 100000
/-- a game's numbers in their ranges; without a duel all is nought but the settings -/
def gV (g : GS) : Prop := gOk g ∧ (g.1 0 = nI 0 → (∀ i, i < 7 → g.1 i = nI 0) ∧ (∀ i, 11 ≤ i → i < 23 → g.1 i = nI 0) ∧ (∀ t, t < 2 → g.1 (23 + 15 * t) = nI 0 ∧ g.1 (24 + 15 * t) = nI 0 ∧ gB g t = [] ∧ gL g t = []) ∧ g.2.2.2 = [])
abbrev MS : Type := GS × List GS × (Nat → Option GS) × List Nat
def g00 : GS := (fun _ => nI 0, fun _ => [], fun _ => [], [])
theorem Sep.atk {D : va_G} {cl : List vw_C} {A : Nat → Prop} {Ps : List Asn} {H : Heap} {k : Nat} {P : Asn} (h : Sep D cl A Ps H) (hk : Ps[k]? = some P) : ∃ w, P w ∧ ∀ Q : Asn, Q w → Sep D cl A (Ps.set k Q) H := by
  obtain ⟨w, h1, h2, h3⟩ := h
  refine ⟨w k, h1 k P hk, fun Q hQ => ?_⟩
  have hkl := (List.getElem?_eq_some_iff.mp hk).1
  refine ⟨w, fun i P' hi => ?_, fun i hi => h2 i (by simpa using hi), fun i j hi hj => h3 i j (by simpa using hi) (by simpa using hj)⟩
  by_cases hik : i = k
  · subst hik
    rw [List.getElem?_set_self hkl] at hi
    cases hi
    exact hQ
  · rw [List.getElem?_set_ne (Ne.symm hik)] at hi
    exact h1 i P' hi
/-- the reference's rows hold the object's value -/
def modC (σ : MS) (fT fN fD fK fZ : Nat → Int32) : Prop :=
  (gV σ.1 ∧ Enc fN σ.1) ∧ (σ.2.1.length ≤ 14 ∧ ∀ j, j < σ.2.1.length → gV (σ.2.1.getD j g00) ∧ Enc (fun i => fD (89 * j + i)) (σ.2.1.getD j g00)) ∧
  (∀ t, t < 2 → fZ t = bI (σ.2.2.1 t).isSome ∧ ∀ g, σ.2.2.1 t = some g → gV g ∧ Enc (fun i => fK (89 * t + i)) g) ∧ Pre fT σ.2.2.2 ∧ σ.2.2.2.length ≤ 20 ∧ ∀ w ∈ σ.2.2.2, w < 256
def modL (G : EVT) (mo : Nat) (rf : Int32) (zs ac : Nat) (aT aN aL aP aD aK aZ aG aB aS bl : Nat) (bp : Int32) (tl : Nat) (fT fN fL fP fD fK fZ fG fB fS : Nat → Int32) : List Asn :=
  [pts mo (.inr (3, [.int rf, .ref aT, .int (nI zs), .ref aN, .ref aL, .ref aP, .ref aD, .int (nI ac), .ref aK, .ref aZ, .ref aG, .ref aB, .int (nI bl), .int bp, .ref aS, .int (nI tl)])),
   pts aT (.inl (G.2.1 0, 20, .inl fT)), pts aN (.inl (G.2.1 0, 89, .inl fN)), pts aL (.inl (G.2.1 0, 89, .inl fL)), pts aP (.inl (G.2.1 0, 89, .inl fP)), pts aD (.inl (G.2.1 0, 1246, .inl fD)), pts aK (.inl (G.2.1 0, 178, .inl fK)), pts aZ (.inl (G.2.1 2, 2, .inl fZ)), pts aG (.inl (G.2.1 0, 18, .inl fG)), pts aB (.inl (G.2.1 0, 5, .inl fB)), pts aS (.inl (G.2.1 0, 5, .inl fS))]
/-- the reference's object -/
def modA (G : EVT) (mo : Nat) (rf : Int32) (σ : MS) : Asn := fun w => ∃ (aT aN aL aP aD aK aZ aG aB aS bl : Nat) (bp : Int32) (tl : Nat) (fT fN fL fP fD fK fZ fG fB fS : Nat → Int32), modC σ fT fN fD fK fZ ∧ bigA (modL G mo rf σ.2.2.2.length σ.2.1.length aT aN aL aP aD aK aZ aG aB aS bl bp tl fT fN fL fP fD fK fZ fG fB fS) w
theorem mod_unpk {G : EVT} {A : Nat → Prop} {H : Heap} {mo : Nat} {rf : Int32} {σ : MS} (h : Sep G.1 clA A [modA G mo rf σ] H) : ∃ (aT aN aL aP aD aK aZ aG aB aS bl : Nat) (bp : Int32) (tl : Nat) (fT fN fL fP fD fK fZ fG fB fS : Nat → Int32), modC σ fT fN fD fK fZ ∧ Sep G.1 clA A (modL G mo rf σ.2.2.2.length σ.2.1.length aT aN aL aP aD aK aZ aG aB aS bl bp tl fT fN fL fP fD fK fZ fG fB fS) H := by
  obtain ⟨w, ⟨aT, aN, aL, aP, aD, aK, aZ, aG, aB, aS, bl, bp, tl, fT, fN, fL, fP, fD, fK, fZ, fG, fB, fS, hC, hb⟩, hQ⟩ := h.atk (k := 0) rfl
  have h2 := hQ _ hb
  exact ⟨aT, aN, aL, aP, aD, aK, aZ, aG, aB, aS, bl, bp, tl, fT, fN, fL, fP, fD, fK, fZ, fG, fB, fS, hC, h2.unpk (k := 0) (Pr := []) rfl [] rfl rfl (by simp)⟩
theorem mod_close {G : EVT} {A : Nat → Prop} {H : Heap} {mo : Nat} {rf rf2 : Int32} {σ : MS} {aT aN aL aP aD aK aZ aG aB aS bl zs ac : Nat} {bp : Int32} {tl : Nat} {fT fN fL fP fD fK fZ fG fB fS : Nat → Int32} (h : Sep G.1 clA A (modL G mo rf2 zs ac aT aN aL aP aD aK aZ aG aB aS bl bp tl fT fN fL fP fD fK fZ fG fB fS) H) (hr : rf2 = rf) (hz : zs = σ.2.2.2.length) (ha : ac = σ.2.1.length) (hC : modC σ fT fN fD fK fZ) : Sep G.1 clA A [modA G mo rf σ] H := by
  subst hr
  subst hz
  subst ha
  exact h.close (Pc := modL G mo rf2 σ.2.2.2.length σ.2.1.length aT aN aL aP aD aK aZ aG aB aS bl bp tl fT fN fL fP fD fK fZ fG fB fS) (Pr := []) [0, 1, 2, 3, 4, 5, 6, 7, 8, 9, 10] [] rfl rfl rfl rfl (by simp) (fun w hw => ⟨aT, aN, aL, aP, aD, aK, aZ, aG, aB, aS, bl, bp, tl, fT, fN, fL, fP, fD, fK, fZ, fG, fB, fS, hC, hw⟩)
/-- a set of words as bits -/
def mkS (P : Nat → Bool) : Nat → Int32
  | 0 => nI 0
  | w + 1 => mkS P w ||| (if P w then nI 1 <<< (nI w &&& 31) else nI 0)
def oAppend (σ : MS) (x : Int32) : Nat × Int32 × MS :=
  if inR x.toInt 0 255 = false then (1, 0, σ) else if σ.2.2.2.length = 20 then (2, 0, σ) else (0, nI (σ.2.2.2.length + 1), σ.1, σ.2.1, σ.2.2.1, σ.2.2.2 ++ [x.toInt.toNat])
def oClear (σ : MS) : Nat × Int32 × MS := (0, nI σ.2.2.2.length, σ.1, σ.2.1, σ.2.2.1, [])
def oErr (σ : MS) : Nat × Int32 × MS := (0, errI σ.2.2.2, σ)
def abA (g : GS) (x : Int32) : Int32 :=
  if g.1 0 = nI 0 then nI 0 else if x = nI 1 then gNextV g else if x = nI 6 then g.1 17 + nI 2 * g.1 18 + nI 4 * g.1 19 else if x = nI 7 then mkS (fun w => decide (w ∈ gRem g)) 18 else g.1 x.toInt.toNat
def oAbout (σ : MS) (x : Int32) : Nat × Int32 × MS := if inR x.toInt 0 7 = false then (1, 0, σ) else (0, abA σ.1 x, σ)
def telA (g : GS) (t : Nat) (x : Int32) : Int32 :=
  if x = nI 0 then g.1 (23 + 15 * t) else if x = nI 1 then mkS (fun w => decide (w ∈ gB g t)) 18 else if x = nI 2 then nI (gL g t).length else if x = nI 3 then mkS (fun w => decide (w ∈ gL g t)) 18 else g.1 (24 + 15 * t)
def oTeller (σ : MS) (t x : Int32) : Nat × Int32 × MS := if inR t.toInt 0 1 = false then (1, 0, σ) else if inR x.toInt 0 4 = false then (2, 0, σ) else (0, telA σ.1 t.toInt.toNat x, σ)
def oForbidden (σ : MS) (t k : Int32) : Nat × Int32 × MS := if inR t.toInt 0 1 = false then (1, 0, σ) else if k < 0 then (2, 0, σ) else (0, if k.toInt.toNat < (gB σ.1 t.toInt.toNat).length then nI ((gB σ.1 t.toInt.toNat).getD k.toInt.toNat 0) else -1, σ)
def oListener (σ : MS) (l x : Int32) : Nat × Int32 × MS := if inR l.toInt 0 2 = false then (1, 0, σ) else if inR x.toInt 0 3 = false then (2, 0, σ) else (0, σ.1.1 (11 + 3 * x.toInt.toNat + l.toInt.toNat), σ)
def oTold (σ : MS) (k i : Int32) : Nat × Int32 × MS := if k < 0 ∨ i < 0 then (1, 0, σ) else (0, lgV σ.1 k.toInt.toNat i.toInt.toNat, σ)
def oSetting (σ : MS) (x : Int32) : Nat × Int32 × MS := if inR x.toInt 0 3 = false then (1, 0, σ) else (0, σ.1.1 (7 + x.toInt.toNat), σ)
def pushH (h : List GS) (g : GS) : List GS := (if h.length = 14 then h.tail else h) ++ [g]
/-- what a call leaves that acts: it is remembered first -/
def actd (σ : MS) (g : GS) : MS := (g, pushH σ.2.1 σ.1, σ.2.2)
def lcg (x : Int64) : Int64 := x * 6364136223846793005 + 1442695040888963407
def lcgN (x : Int64) : Nat → Int64
  | 0 => x
  | n + 1 => lcg (lcgN x n)
def rnd (x : Int64) : Int32 := ((x.toUInt64 >>> ((nI 33).toInt64.toUInt64 &&& Int64.toUInt64 63)).toInt64).toInt32
def rem3 (x : Int32) : Int32 := x - x / nI 3 * nI 3
/-- what a listener likes, out of a seed -/
def lik (x : Int64) (l w : Nat) : Bool := decide (rem3 (rnd (lcgN x (18 * l + w + 1))) = 0)
def gBegin (g : GS) (x : Int64) : GS := (fun i => if 7 ≤ i ∧ i < 11 then g.1 i else if i = 0 then nI 1 else if 11 ≤ i ∧ i < 14 then mkS (lik x (i - 11)) 18 else if 17 ≤ i ∧ i < 20 then nI 1 else nI 0, fun _ => [], fun _ => [], [])
def cntB (P : Nat → Bool) : Nat → Nat
  | 0 => 0
  | w + 1 => cntB P w + (if P w then 1 else 0)
def liked (x : Int64) (w : Nat) : Bool := lik x 0 w || (lik x 1 w || lik x 2 w)
def oBegin (σ : MS) (x : Int64) : Nat × Int32 × MS := (0, nI (cntB (liked x) 18), actd σ (gBegin σ.1 x))
def oTell (σ : MS) : Nat × Int32 × MS := if gCanTellN σ.1 σ.2.2.2 = false then (1, 0, σ) else (0, nI (gPts σ.1 (tW σ.2.2.2) 3), actd σ (gTell σ.1 (tW σ.2.2.2)))
def oForbid (σ : MS) (x : Int32) : Nat × Int32 × MS := if inR x.toInt 0 17 = false then (1, 0, σ) else if gCan σ.1 x.toInt.toNat = false then (2, 0, σ) else (0, nI (gB (gBan σ.1 x.toInt.toNat) (1 - gTurn σ.1)).length, actd σ (gForbid σ.1 x.toInt.toNat))
def oDone (σ : MS) : Nat × Int32 × MS := if gOn σ.1 = false then (1, 0, σ) else (0, gNextV (gDone σ.1), actd σ (gDone σ.1))
noncomputable def oPlay (σ : MS) : Nat × Int32 × MS := if gOn σ.1 = false then (1, 0, σ) else (0, (gPlay σ.1).2, actd σ (gPlay σ.1).1)
def oSet (σ : MS) (x y : Int32) : Nat × Int32 × MS := if setOk x y = false then (1, 0, σ) else (0, σ.1.1 (7 + x.toInt.toNat), actd σ (gset σ.1 (7 + x.toInt.toNat) y))
def oUndo (σ : MS) : Nat × Int32 × MS := if σ.2.1.length = 0 then (1, 0, σ) else (0, nI (σ.2.1.length - 1), σ.2.1.getD (σ.2.1.length - 1) g00, σ.2.1.dropLast, σ.2.2)
def oPoints (σ : MS) (t : Int32) : Nat × Int32 × MS := if inR t.toInt 0 1 = false then (1, 0, σ) else (0, if gCanTell σ.1 σ.2.2.2 t.toInt.toNat then nI (gPts σ.1 (tW σ.2.2.2) 3) else -1, σ)
noncomputable def gBst (g : GS) (t : Nat) : Nat × List Nat := bst (gain g) (bnG g t)
noncomputable def bstA (g : GS) (t : Nat) (x : Int32) : Int32 :=
  if g.1 0 = nI 0 ∨ (gBst g t).1 = 0 then -1 else if x = nI 0 then ptI (gBst g t).1 else if x = nI 1 then nI (gBst g t).2.length else if x.toInt.toNat - 2 < (gBst g t).2.length then nI ((gBst g t).2.getD (x.toInt.toNat - 2) 0) else -1
noncomputable def oBest (σ : MS) (t x : Int32) : Nat × Int32 × MS := if inR t.toInt 0 1 = false then (1, 0, σ) else if inR x.toInt 0 6 = false then (2, 0, σ) else (0, bstA σ.1 t.toInt.toNat x, σ)
noncomputable def gIf (g : GS) (t w : Nat) : Nat := (bst (gain g) (fun v => decide (v = w) || bnG g t v)).1
noncomputable def oIf (σ : MS) (t x : Int32) : Nat × Int32 × MS := if inR t.toInt 0 1 = false ∨ inR x.toInt 0 17 = false then (1, 0, σ) else (0, if σ.1.1 0 = nI 0 then -1 else ptI (gIf σ.1 t.toInt.toNat x.toInt.toNat), σ)
noncomputable def oBan (σ : MS) : Nat × Int32 × MS := (0, oI (gBanOf σ.1), σ)
def lvB (g : GS) (l : Nat) : Bool := gThere g l && decide (g.1 8 ≤ g.1 (14 + l) + nI 1)
def oLeaves (σ : MS) (l : Int32) : Nat × Bool × MS := if inR l.toInt 0 2 = false then (1, false, σ) else (0, lvB σ.1 l.toInt.toNat, σ)
/-- ten to the power of three, so often -/
def th3 (n : Nat) : Nat := 1000 ^ n
/-- a script's commands, from k on -/
noncomputable def gScr (T : List Nat) (n v : Nat) : Nat → Nat → GS → Int32
  | 0, _, _ => -1
  | f + 1, k, g => if (gCmd g T (v / 1000 ^ (n - 1 - k) % 1000 / 100) (v / 1000 ^ (n - 1 - k) % 1000 / 10 % 10) (v / 1000 ^ (n - 1 - k) % 1000 % 10)).1 = true then gScr T n v f (k + 1) (gCmd g T (v / 1000 ^ (n - 1 - k) % 1000 / 100) (v / 1000 ^ (n - 1 - k) % 1000 / 10 % 10) (v / 1000 ^ (n - 1 - k) % 1000 % 10)).2 else nI k
noncomputable def oScript (σ : MS) (n : Int32) (x : Int64) : Nat × Int32 × MS := if inR n.toInt 1 3 = false ∨ inR x.toInt 0 (1000 ^ n.toInt.toNat - 1) = false then (1, 0, σ) else (0, gScr σ.2.2.2 n.toInt.toNat x.toInt.toNat n.toInt.toNat 0 σ.1, σ)
noncomputable def gSim (y : Int64) : Nat → Nat → GS → GS
  | 0, _, g => g
  | f + 1, k, g => if gOn g = true then gSim y f (k + 1) (gStir g (rnd (lcgN y (k + 1))).toInt.toNat) else g
def simA (g : GS) : Int32 := if g.1 0 = nI 0 then nI 0 else nI 1000 * g.1 23 + g.1 38
noncomputable def oSim (σ : MS) (y : Int64) (n : Int32) : Nat × Int32 × MS := if inR n.toInt 1 20 = false then (1, 0, σ) else (0, simA (gSim y n.toInt.toNat 0 σ.1), σ)
def oSave (σ : MS) (x : Int32) : Nat × Int32 × MS := if inR x.toInt 0 1 = false then (1, 0, σ) else (0, σ.1.1 3, σ.1, σ.2.1, fun t => if t = x.toInt.toNat then some σ.1 else σ.2.2.1 t, σ.2.2.2)
def oRestore (σ : MS) (x : Int32) : Nat × Int32 × MS := if inR x.toInt 0 1 = false then (1, 0, σ) else match σ.2.2.1 x.toInt.toNat with
  | none => (2, 0, σ)
  | some g => (0, g.1 3, g, [], σ.2.2)
theorem nI_oZ {x : Int32} (h : ¬ x < 0) : ∃ k : Nat, k < 2 ^ 31 ∧ x = nI k := by
  have h1 : ¬ x.toInt < (0 : Int32).toInt := fun h9 => h (Int32.lt_iff_toInt_lt.mpr h9)
  have h2 := fb_rngX x
  have h3 : (0 : Int32).toInt = 0 := rfl
  refine ⟨x.toInt.toNat, by omega, ?_⟩
  apply Int32.toInt_inj.mp
  rw [nI_toInt (by omega)]
  omega
theorem nI_gZ {k : Nat} (h : k < 2 ^ 31) : ¬ nI k < 0 := by
  rw [Int32.lt_iff_toInt_lt, nI_toInt h]
  have h3 : (0 : Int32).toInt = 0 := rfl
  omega
