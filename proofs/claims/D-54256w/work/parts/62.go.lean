/-! THE CLASS'S SEARCH: it goes in order, so that only a greater sum counts: plain laws -/
set_option maxRecDepth 100000
/-- t is tried before c -/
def befo (t c : List Nat) : Prop := t.length < c.length ∨ (t.length = c.length ∧ lexLt t c)
theorem best_step {sm : List Nat → Nat} {S : List Nat → Prop} {P : Nat} {b c : List Nat} (h : BestOn sm S P b) (hS : ∀ t, S t → befo t c) : BestOn sm (fun s => S s ∨ s = c) (if P < sm c + 1 then sm c + 1 else P) (if P < sm c + 1 then c else b) := by
  by_cases hp : P < sm c + 1
  · rw [if_pos hp, if_pos hp]
    refine h.up ?_
    rcases h with ⟨h1, -, -⟩ | ⟨h1, -, -⟩
    · exact Or.inl h1
    · exact Or.inr (Or.inl (by omega))
  · rw [if_neg hp, if_neg hp]
    refine h.same (fun z => ?_)
    rcases h with ⟨h1, -, -⟩ | ⟨h1, h2, -⟩
    · omega
    · rcases z with z | z | ⟨z, z2⟩
      · omega
      · omega
      · rcases hS b h2 with y | ⟨y, y2⟩
        · rcases z2 with z2 | ⟨z2, -⟩ <;> omega
        · rcases z2 with z2 | ⟨-, z2⟩
          · omega
          · exact lexLt_asymm _ _ y2 z2
theorem lexLt_app : ∀ (s t u : List Nat) {v w : Nat}, v < w → lexLt (s ++ v :: t) (s ++ w :: u)
  | [], _, _, _, _, h => Or.inl h
  | _ :: s, t, u, _, _, h => Or.inr ⟨rfl, lexLt_app s t u h⟩
