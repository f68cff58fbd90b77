/-! THE CLASS'S SEARCH: it goes in order, so that only a greater sum counts: plain laws -/
set_option maxRecDepth 100000
/-- t is tried before c -/
def befo (t c : List Nat) : Prop := t.length < c.length ∨ (t.length = c.length ∧ lexLt t c)
theorem best_step {sm : List Nat → Nat} {S : List Nat → Prop} {P : Nat} {b c : List Nat} (h : BestOn sm S P b) (hS : ∀ t, S t → befo t c) : BestOn sm (fun s => S s ∨ s = c) (if P < sm c + 1 then sm c + 1 else P) (if P < sm c + 1 then c else b) := by
  by_cases hp : P < sm c + 1
  · rw [if_pos hp, if_pos hp]
    refine h.up ?_
    rcases h with ⟨h1, -, -⟩ | ⟨h1, -, -⟩
    · exact Or.inl h1
    · exact Or.inr (Or.inl (by omega))
  · rw [if_neg hp, if_neg hp]
    refine h.same (fun z => ?_)
    rcases h with ⟨h1, -, -⟩ | ⟨h1, h2, -⟩
    · omega
    · rcases z with z | z | ⟨z, z2⟩
      · omega
      · omega
      · rcases hS b h2 with y | ⟨y, y2⟩
        · rcases z2 with z2 | ⟨z2, -⟩ <;> omega
        · rcases z2 with z2 | ⟨-, z2⟩
          · omega
          · exact lexLt_asymm _ _ y2 z2
theorem lexLt_app : ∀ (s t u : List Nat) {v w : Nat}, v < w → lexLt (s ++ v :: t) (s ++ w :: u)
  | [], _, _, _, _, h => Or.inl h
  | _ :: s, t, u, _, _, h => Or.inr ⟨rfl, lexLt_app s t u h⟩
/-- what the class's search does: from a prefix on, with so many words to come -/
def goF (gv : Nat → Nat) (bn : Nat → Bool) : Nat → List Nat → Nat × List Nat → Nat × List Nat
  | 0, s, r => if gRun 0 s = 3 ∨ gRun 0 s = 5 then (if r.1 < smS gv s + 1 then smS gv s + 1 else r.1, if r.1 < smS gv s + 1 then s else r.2) else r
  | n + 1, s, r => (List.range 18).foldl (fun r w => if gNext (gRun 0 s) w ≠ 6 ∧ bn w = false ∧ w ∉ s then goF gv bn n (s ++ [w]) r else r) r
/-- the sentences of so many words that begin so -/
def extS (bn : Nat → Bool) (n : Nat) (s t : List Nat) : Prop := okS bn t ∧ ∃ u, t = s ++ u ∧ u.length = n
theorem goF_best (gv : Nat → Nat) (bn : Nat → Bool) : ∀ (n : Nat) (s : List Nat) (r : Nat × List Nat) (S : List Nat → Prop), (s.Nodup ∧ (∀ w ∈ s, w < 18 ∧ bn w = false)) → BestOn (smS gv) S r.1 r.2 → (∀ t c, S t → extS bn n s c → befo t c) →
    BestOn (smS gv) (fun t => S t ∨ extS bn n s t) (goF gv bn n s r).1 (goF gv bn n s r).2
  | 0, s, r, S, hs, h, hb => by
    unfold goF
    have hx : ∀ t, extS bn 0 s t ↔ (t = s ∧ (gRun 0 s = 3 ∨ gRun 0 s = 5)) := fun t => by
      constructor
      · rintro ⟨h1, u, rfl, h2⟩
        have : u = [] := List.length_eq_zero_iff.mp h2
        subst this
        rw [List.append_nil] at h1 ⊢
        exact ⟨rfl, h1.1.1⟩
      · rintro ⟨rfl, h2⟩
        exact ⟨⟨⟨h2, hs.1, fun w hw => (hs.2 w hw).1⟩, fun w hw => (hs.2 w hw).2⟩, [], by simp, rfl⟩
    by_cases hq : gRun 0 s = 3 ∨ gRun 0 s = 5
    · rw [if_pos hq]
      refine (best_step h (fun t ht => hb t s ht ((hx s).mpr ⟨rfl, hq⟩))).congr fun t => ?_
      rw [hx t]
      exact ⟨fun z => z.imp id (fun e => ⟨e, hq⟩), fun z => z.imp id And.left⟩
    · rw [if_neg hq]
      refine h.congr fun t => ?_
      rw [hx t]
      exact ⟨Or.inl, fun z => z.elim id (fun e => absurd e.2 hq)⟩
  | n + 1, s, r, S, hs, h, hb => by
    have hx : ∀ t, extS bn (n + 1) s t ↔ ∃ w, w < 18 ∧ (gNext (gRun 0 s) w ≠ 6 ∧ bn w = false ∧ w ∉ s) ∧ extS bn n (s ++ [w]) t := fun t => by
      constructor
      · rintro ⟨h1, u, rfl, h2⟩
        cases u with
        | nil => simp at h2
        | cons w u =>
          have hm : w ∈ s ++ w :: u := List.mem_append_right _ List.mem_cons_self
          refine ⟨w, h1.1.2.2 w hm, ⟨fun h6 => ?_, h1.2 w hm, fun hw => ?_⟩, h1, u, by simp, by simpa using h2⟩
          · have h9 := h1.1.1
            rw [gRun_app, gRun, h6, gRun_6] at h9
            omega
          · have h9 := h1.1.2.1
            rw [List.nodup_append] at h9
            exact h9.2.2 w hw w List.mem_cons_self rfl
      · rintro ⟨w, -, -, h1, u, rfl, h2⟩
        exact ⟨h1, w :: u, by simp, by simp [h2]⟩
    have step : ∀ m, m ≤ 18 → BestOn (smS gv) (fun t => S t ∨ ∃ w, w < m ∧ (gNext (gRun 0 s) w ≠ 6 ∧ bn w = false ∧ w ∉ s) ∧ extS bn n (s ++ [w]) t) ((List.range m).foldl (fun r w => if gNext (gRun 0 s) w ≠ 6 ∧ bn w = false ∧ w ∉ s then goF gv bn n (s ++ [w]) r else r) r).1 ((List.range m).foldl (fun r w => if gNext (gRun 0 s) w ≠ 6 ∧ bn w = false ∧ w ∉ s then goF gv bn n (s ++ [w]) r else r) r).2 := by
      intro m
      induction m with
      | zero => intro _; exact h.congr fun t => ⟨Or.inl, fun z => z.elim id (fun ⟨w, hw, _⟩ => absurd hw (Nat.not_lt_zero _))⟩
      | succ m ih =>
        intro hm
        have h1 := ih (by omega)
        rw [List.range_succ, List.foldl_append, List.foldl_cons, List.foldl_nil]
        by_cases hc : gNext (gRun 0 s) m ≠ 6 ∧ bn m = false ∧ m ∉ s
        · rw [if_pos hc]
          refine (goF_best gv bn n (s ++ [m]) _ _ ⟨?_, ?_⟩ h1 ?_).congr fun t => ?_
          · rw [List.nodup_append]
            exact ⟨hs.1, by simp, fun a ha b hb e => hc.2.2 (by rw [List.mem_singleton.mp hb] at e; rw [← e]; exact ha)⟩
          · intro w hw
            rcases List.mem_append.mp hw with z | z
            · exact hs.2 w z
            · rw [List.mem_singleton.mp z]; exact ⟨by omega, hc.2.1⟩
          · intro t c ht hcx
            rcases ht with ht | ⟨w, hw, -, -, u, rfl, hu⟩
            · exact hb t c ht ((hx c).mpr ⟨m, by omega, hc, hcx⟩)
            · obtain ⟨-, u2, rfl, hu2⟩ := hcx
              refine Or.inr ⟨by simp [hu, hu2], ?_⟩
              rw [List.append_assoc, List.append_assoc]
              exact lexLt_app s u u2 hw
          · constructor
            · rintro ((z | ⟨w, hw, z⟩) | z)
              · exact Or.inl z
              · exact Or.inr ⟨w, by omega, z⟩
              · exact Or.inr ⟨m, by omega, hc, z⟩
            · rintro (z | ⟨w, hw, z, z2⟩)
              · exact Or.inl (Or.inl z)
              · by_cases e : w = m
                · subst e; exact Or.inr z2
                · exact Or.inl (Or.inr ⟨w, by omega, z, z2⟩)
        · rw [if_neg hc]
          refine h1.congr fun t => ⟨fun z => z.imp id (fun ⟨w, hw, z⟩ => ⟨w, by omega, z⟩), fun z => z.imp id (fun ⟨w, hw, z, z2⟩ => ⟨w, ?_, z, z2⟩)⟩
          rcases Nat.lt_succ_iff_lt_or_eq.mp hw with y | y
          · exact y
          · exact (hc (y ▸ z)).elim
    have h18 := step 18 (Nat.le_refl _)
    unfold goF
    refine h18.congr fun t => ?_
    rw [hx t]
/-- all lengths, short ones first -/
def goAll (gv : Nat → Nat) (bn : Nat → Bool) : Nat → Nat × List Nat
  | 0 => (0, [])
  | k + 1 => goF gv bn (k + 2) [] (goAll gv bn k)
theorem goAll_on (gv : Nat → Nat) (bn : Nat → Bool) : ∀ k, BestOn (smS gv) (fun t => okS bn t ∧ 2 ≤ t.length ∧ t.length < k + 2) (goAll gv bn k).1 (goAll gv bn k).2
  | 0 => BestOn.none.congr fun t => ⟨fun h => h.elim, fun h => by omega⟩
  | k + 1 => by
    have h := goF_best gv bn (k + 2) [] _ _ ⟨List.nodup_nil, fun w hw => absurd hw List.not_mem_nil⟩ (goAll_on gv bn k) (fun t c ht hc => by
      obtain ⟨-, u, rfl, hu⟩ := hc
      exact Or.inl (by omega))
    refine h.congr fun t => ?_
    constructor
    · rintro (⟨z1, z2⟩ | ⟨z1, u, rfl, hu⟩)
      · exact ⟨z1, by omega⟩
      · exact ⟨z1, by omega⟩
    · rintro ⟨z1, z2⟩
      by_cases e : t.length = k + 2
      · exact Or.inr ⟨z1, t, rfl, e⟩
      · exact Or.inl ⟨z1, by omega⟩
theorem goAll_bst (gv : Nat → Nat) (bn : Nat → Bool) : bst gv bn = goAll gv bn 4 := by
  have h := goAll_on gv bn 4
  have h2 : BestOn (smS gv) (okS bn) (goAll gv bn 4).1 (goAll gv bn 4).2 := h.congr fun t => ⟨And.left, fun z => ⟨z, (Sent_len z.1).1, by have := (Sent_len z.1).2; omega⟩⟩
  exact bst_eq h2
