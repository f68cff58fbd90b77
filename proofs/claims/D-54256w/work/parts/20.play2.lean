/-! the ranges are kept -/
set_option maxRecDepth 100000
theorem bI_01 (b : Bool) : bI b = nI 0 ∨ bI b = nI 1 := by cases b; exact Or.inl rfl; exact Or.inr rfl
theorem gOk_end {g : GS} (ho : gOk g) (ps : Bool) : gOk (gEnd g ps) := by
  have o := ho
  obtain ⟨o0, o1, o2, o5, o6, -, -, -, -, o17, -⟩ := o
  have h3 : gOk (gEnd3 g ps) := by
    refine gOk_num ho rfl ?_ ?_ ?_ ?_ ?_ (fun i h1 h2 => gEnd3_n (by omega)) (fun i hi => ?_)
    · rw [gEnd3_n (by decide)]; exact o0
    · rw [gEnd3_n (by decide)]; exact o1
    · unfold gEnd3; rw [gset_n (by decide), gset_s]; exact Or.inl rfl
    · rw [gEnd3_n (by decide)]; exact o5
    · unfold gEnd3; rw [gset_s]; exact bI_01 ps
    · rw [gEnd3_n (by omega)]; exact o17 i hi
  have o := h3
  obtain ⟨o0, o1, o2, o5, o6, -, -, -, -, o17, -⟩ := o
  unfold gEnd
  split
  · refine gOk_num h3 rfl ?_ ?_ ?_ ?_ ?_ (fun i h1 h2 => gset_n (by omega)) (fun i hi => ?_)
    · rw [gset_n (by decide)]; exact o0
    · rw [gset_n (by decide)]; exact o1
    · rw [gset_n (by decide)]; exact o2
    · rw [gset_s]; exact Or.inr rfl
    · rw [gset_n (by decide)]; exact o6
    · rw [gset_n (by omega)]; exact o17 i hi
  · refine gOk_num h3 rfl ?_ ?_ ?_ ?_ ?_ (fun i h1 h2 => gset_n (by omega)) (fun i hi => ?_)
    · rw [gset_n (by decide)]; exact o0
    · rw [gset_s]
      have := gTurn_lt g
      rcases (show 1 - gTurn g = 0 ∨ 1 - gTurn g = 1 by omega) with e | e
      · rw [e]; exact Or.inl rfl
      · rw [e]; exact Or.inr rfl
    · rw [gset_n (by decide)]; exact o2
    · rw [gset_n (by decide)]; exact o5
    · rw [gset_n (by decide)]; exact o6
    · rw [gset_n (by omega)]; exact o17 i hi
theorem gOk_setB {g : GS} (ho : gOk g) {t : Nat} {l : List Nat} (hl : l.length ≤ 5) (hw : ∀ w ∈ l, w < 18) : gOk (gsetB g t l) := by
  obtain ⟨o0, o1, o2, o5, o6, o7, o8, o9, o10, o17, oB, oL, oG, oH⟩ := ho
  refine ⟨o0, o1, o2, o5, o6, o7, o8, o9, o10, o17, fun u hu => ?_, oL, oG, oH⟩
  rw [gB_setB]
  split
  · exact ⟨hl, hw⟩
  · exact oB u hu
theorem gOk_ban {g : GS} (ho : gOk g) {w : Nat} (hw : w < 18) : gOk (gBan g w) := by
  have h := gBans_ok ho
  refine gOk_setB ho ?_ fun v hv => ?_
  · rw [banL_len]; omega
  · have := gTurn_lt g
    rcases List.mem_append.mp (banL_mem hv) with e | e
    · exact (gB_ok ho (t := 1 - gTurn g) (by omega)).2 v e
    · rw [List.mem_singleton.mp e]; exact hw
theorem gOk_logs {h : GS} (ho : gOk h) {t : Nat} {s : List Nat} (hs : s.length ≤ 5) (hw : ∀ w ∈ s, w < 18) : gOk (gLogs h t s) := by
  obtain ⟨o0, o1, o2, o5, o6, o7, o8, o9, o10, o17, oB, oL, oG, oH⟩ := ho
  refine ⟨o0, o1, o2, o5, o6, o7, o8, o9, o10, o17, oB, fun u hu => ?_, ?_, fun l hl => ?_⟩
  · unfold gL gLogs
    dsimp only
    split
    · exact ⟨hs, hw⟩
    · exact oL u hu
  · unfold gLogs
    dsimp only
    rw [List.length_take]
    omega
  · rcases List.mem_cons.mp (List.mem_of_mem_take (show l ∈ (s :: h.2.2.2).take 6 from hl)) with e | e
    · rw [e]; exact ⟨hs, hw⟩
    · exact oH l e
theorem gOk_set {g : GS} (ho : gOk g) {i : Nat} (x : Int32) (hi : i = 3 ∨ i = 4 ∨ 20 ≤ i ∨ (11 ≤ i ∧ i < 17)) : gOk (gset g i x) := by
  have o := ho
  obtain ⟨o0, o1, o2, o5, o6, -, -, -, -, o17, -⟩ := o
  refine gOk_num ho rfl ?_ ?_ ?_ ?_ ?_ (fun j h1 h2 => gset_n (by omega)) (fun j hj => ?_)
  · rw [gset_n (by omega)]; exact o0
  · rw [gset_n (by omega)]; exact o1
  · rw [gset_n (by omega)]; exact o2
  · rw [gset_n (by omega)]; exact o5
  · rw [gset_n (by omega)]; exact o6
  · rw [gset_n (by omega)]; exact o17 j hj
theorem gOk_set2 {g : GS} (ho : gOk g) : gOk (gset g 2 (nI 1)) := by
  have o := ho
  obtain ⟨o0, o1, o2, o5, o6, -, -, -, -, o17, -⟩ := o
  refine gOk_num ho rfl ?_ ?_ ?_ ?_ ?_ (fun j h1 h2 => gset_n (by omega)) (fun j hj => ?_)
  · rw [gset_n (by omega)]; exact o0
  · rw [gset_n (by omega)]; exact o1
  · rw [gset_s]; exact Or.inr rfl
  · rw [gset_n (by omega)]; exact o5
  · rw [gset_n (by omega)]; exact o6
  · rw [gset_n (by omega)]; exact o17 j hj
theorem gOk_tell {g : GS} (ho : gOk g) {s : List Nat} (hs : s.length ≤ 5) (hw : ∀ w ∈ s, w < 18) : gOk (gTell g s) := by
  unfold gTell
  exact gOk_set2 (gOk_set (gOk_set (gOk_set (gOk_logs (gOk_lis ho s 3 (by omega)) hs hw) _ (by omega)) _ (by omega)) _ (by omega))
theorem gBanN_lt (g : GS) : ∀ (n v : Nat), (gBanN g n).1 = some v → v < n
  | 0, v, h => by simp [gBanN] at h
  | n + 1, v, h => by
    rw [gBanN] at h
    split at h
    · cases h; omega
    · have := gBanN_lt g n v h
      omega
theorem gBanOf_lt {g : GS} {w : Nat} (h : gBanOf g = some w) : w < 18 := gBanN_lt g 18 w h
theorem Enc.congr {f f2 : Nat → Int32} {g : GS} (he : Enc f g) (ho : gOk g) (h : ∀ i, i < 89 → f2 i = f i) : Enc f2 g := by
  refine ⟨fun j hj => ?_, fun t ht => ⟨?_, ?_⟩, fun t ht => ⟨?_, fun k hk => ?_⟩, fun t ht => ⟨?_, fun k hk => ?_⟩, fun j hj => ⟨?_, fun k hk => ?_⟩⟩
  · rw [h j (by omega)]; exact he.1 j hj
  · rw [h _ (by omega)]; exact (he.2.1 t ht).1
  · rw [h _ (by omega)]; exact (he.2.1 t ht).2
  · rw [h _ (by omega)]; exact (he.2.2.1 t ht).1
  · have := (gB_ok ho ht).1
    rw [h _ (by omega)]; exact (he.2.2.1 t ht).2 k hk
  · rw [h _ (by omega)]; exact (he.2.2.2.1 t ht).1
  · have := (gL_ok ho ht).1
    rw [h _ (by omega)]; exact (he.2.2.2.1 t ht).2 k hk
  · rw [h _ (by omega)]; exact (he.2.2.2.2 j hj).1
  · have := (gLog_ok ho j).1
    rw [h _ (by omega)]; exact (he.2.2.2.2 j hj).2 k hk
theorem gB_same {g : GS} {t : Nat} {l : List Nat} : gB (gsetB g t l) t = l := if_pos rfl
theorem gsetB_setB {g : GS} {t : Nat} {l k : List Nat} : gsetB (gsetB g t l) t k = gsetB g t k := by
  unfold gsetB
  congr 2
  funext u
  dsimp only
  split <;> rfl
theorem gB_ban {g : GS} {w : Nat} : gB (gBan g w) (1 - gTurn g) = banL (gB g (1 - gTurn g) ++ [w]) (gBans g) := gB_same
theorem oI_none {q : Option Nat} (h : ∀ w, q = some w → w < 18) : oI q = -1 ↔ q = none := oI_inj (r := none) h (by simp)
theorem ptI_ge (P : Nat) (h : P < 1000) : ¬ ptI P < -1 := by
  rw [Int32.lt_iff_toInt_lt, ptI_toInt (by omega)]
  have : (-1 : Int32).toInt = -1 := by decide
  omega
