/-! TOKENS: what they may be -/
section tok
variable {f : Int → Int} {n : Int}
theorem nvl_rng {k0 : Int} : ∀ (m : Nat) (k v : Int) (t : Nat), k = k0 + t → 0 ≤ v → v < (27 : Int) ^ t → spn (fun j => low (f j)) m k ≤ k0 + 5 → 0 ≤ nvl f k0 m k v ∧ nvl f k0 m k v ≤ 14348906
  | 0, k, v, t, hk, h0, hv, hs => by
    rw [spn] at hs
    rw [nvl]
    have ht : t ≤ 5 := by omega
    have : (27 : Int) ^ t ≤ 14348907 := by
      have : t = 0 ∨ t = 1 ∨ t = 2 ∨ t = 3 ∨ t = 4 ∨ t = 5 := by omega
      rcases this with h | h | h | h | h | h <;> subst h <;> decide
    omega
  | m + 1, k, v, t, hk, h0, hv, hs => by
    rw [spn] at hs
    rw [nvl]
    split
    · rename_i hl
      rw [if_pos hl] at hs
      have hge := spn_ge (fun j => low (f j)) m (k + 1)
      rw [if_pos (by omega)]
      have hr := low_iff.mp hl
      refine nvl_rng m (k + 1) _ (t + 1) (by omega) (by omega) ?_ hs
      rw [Int.pow_succ]
      omega
    · rename_i hl
      rw [if_neg hl] at hs
      have ht : t ≤ 5 := by omega
      have : (27 : Int) ^ t ≤ 14348907 := by
        have : t = 0 ∨ t = 1 ∨ t = 2 ∨ t = 3 ∨ t = 4 ∨ t = 5 := by omega
        rcases this with h | h | h | h | h | h <;> subst h <;> decide
      omega
def TokOK (f : Int → Int) (n : Int) (t : Int × Int × Int) : Prop := (0 ≤ t.1 ∧ t.1 ≤ 40000 ∧ ¬ t.1 = 36) ∧ (0 ≤ t.2.1 ∧ t.2.1 < n) ∧ (t.1 = 97 → 0 ≤ tkv f n t.1 t.2.1 ∧ tkv f n t.1 t.2.1 ≤ 14348906) ∧ (t.1 = 11776 → 1 ≤ tks f t.1 t.2.1 ∧ tks f t.1 t.2.1 ≤ 3)
theorem lexOne_ok (hf : ∀ k, 0 ≤ k → 0 ≤ f k ∧ f k ≤ 126) {k : Int} {q : Int × Int} (hk : 0 ≤ k ∧ k < n) (h : lexOne f n k = some q) : TokOK f n (q.1, k, q.2 - k) := by
  have hr := hf k hk.1
  have hr2 := hf (k + 1) (by omega)
  unfold lexOne at h
  split at h
  · split at h
    · cases h
    · rename_i hd hb
      cases h
      refine ⟨?_, hk, fun h => ?_, fun h => ?_⟩
      · dsimp only; split <;> decide
      · dsimp only at h; split at h <;> cases h
      · dsimp only at h ⊢
        unfold tks
        rw [if_pos (Or.inr h)]
        split at h
        · omega
        · cases h
  · split at h
    · split at h
      · cases h
      · rename_i hd hl hb
        cases h
        refine ⟨by dsimp only; decide, hk, fun _ => ?_, fun h => by cases h⟩
        dsimp only
        unfold tkv
        rw [if_neg (by decide), if_pos rfl]
        exact nvl_rng 41 k 0 0 (by omega) (by decide) (by decide) (by unfold naE at hb; omega)
    · split at h
      · split at h
        · cases h
          exact ⟨by dsimp only; decide, hk, (fun h => by cases h), (fun h => by cases h)⟩
        · cases h
      · split at h
        · rename_i hs
          have hs2 := sgTwo_iff.mp hs
          cases h
          refine ⟨by dsimp only; omega, hk, fun h => ?_, fun h => ?_⟩
          · dsimp only at h; omega
          · dsimp only at h; omega
        · split at h
          · rename_i hs
            have hs2 := sgOne_iff.mp hs
            cases h
            refine ⟨by dsimp only; omega, hk, fun h => ?_, fun h => ?_⟩
            · dsimp only at h; omega
            · dsimp only at h; omega
          · cases h
theorem lexL_ok (hf : ∀ k, 0 ≤ k → 0 ≤ f k ∧ f k ≤ 126) (hadv : ∀ k q, 0 ≤ k → k < n → lexOne f n k = some q → k < q.2) : ∀ (m : Nat) (k : Int) (ts : List (Int × Int × Int)), 0 ≤ k → lexL f n m k = .inr ts → ∀ t, t ∈ ts → TokOK f n t
  | 0, k, ts, hk, h, t, ht => by rw [lexL] at h; cases h; cases ht
  | m + 1, k, ts, hk, h, t, ht => by
    rw [lexL] at h
    split at h
    · rename_i hkn
      split at h
      · exact lexL_ok hf hadv m (k + 1) ts (by omega) h t ht
      · cases hq : lexOne f n k with
        | none => rw [hq] at h; cases h
        | some q =>
          rw [hq] at h
          dsimp only at h
          cases hl : lexL f n m q.2 with
          | inl p => rw [hl] at h; cases h
          | inr ts2 =>
            rw [hl] at h
            cases h
            cases ht with
            | head => exact lexOne_ok hf ⟨hk, hkn⟩ hq
            | tail _ ht => exact lexL_ok hf hadv m q.2 ts2 (by have := hadv k q hk hkn hq; omega) hl t ht
    · cases h; cases ht
theorem lexL_err (hadv : ∀ k q, 0 ≤ k → k < n → lexOne f n k = some q → k < q.2) : ∀ (m : Nat) (k p : Int), 0 ≤ k → lexL f n m k = .inl p → 0 ≤ p ∧ p < n
  | 0, k, p, hk, h => by rw [lexL] at h; cases h
  | m + 1, k, p, hk, h => by
    rw [lexL] at h
    split at h
    · rename_i hkn
      split at h
      · exact lexL_err hadv m (k + 1) p (by omega) h
      · cases hq : lexOne f n k with
        | none => rw [hq] at h; cases h; exact ⟨hk, hkn⟩
        | some q =>
          rw [hq] at h
          dsimp only at h
          cases hl : lexL f n m q.2 with
          | inl p2 => rw [hl] at h; cases h; exact lexL_err hadv m q.2 p (by have := hadv k q hk hkn hq; omega) hl
          | inr ts2 => rw [hl] at h; cases h
    · cases h
end tok

