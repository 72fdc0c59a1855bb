/-! THE PARSER's SHAPES -/
section shp
variable {f : Int → Int} {n : Int} {T : List (Int × Int × Int)}
/-- what a choice's steps look like -/
def ShO (q : Nat × List Sp × Nat) : Prop := ¬ q.2.1 = [] ∧ (q.1 = 1 → ∃ v, q.2.1 = [(9, v)] ∧ 0 ≤ v ∧ v ≤ 14348906) ∧ (q.1 = 2 → ∃ o s v, q.2.1 = o ++ [(s, v)] ∧ (s = 11 ∨ s = 12) ∧ 0 ≤ v ∧ v ≤ 14348906) ∧ q.1 ≤ 2
def ShI (inn : Nat → PRes) : Prop := ∀ i q, inn i = .inr q → ShO q
theorem ShO.zero {sp : List Sp} {j : Nat} (h : ¬ sp = []) : ShO (0, sp, j) := ⟨h, (fun e => by cases e), (fun e => by cases e), Nat.zero_le _⟩
theorem first_sh {inn : Nat → PRes} (hN : ∀ i, tkd n T i = 97 → 0 ≤ tvl f n T i ∧ tvl f n T i ≤ 14348906) (hI : ShI inn) {i : Nat} {q : Nat × List Sp × Nat} (h : firstR f n T inn i = .inr q) : ShO q := by
  unfold firstR bad2 at h
  split at h
  · cases hi : inn (i + 1) with
    | inl e => rw [hi] at h; cases h
    | inr q2 =>
      rw [hi] at h
      dsimp only at h
      split at h
      · cases h; exact ShO.zero (hI _ _ hi).1
      · cases h
  · split at h
    · split at h
      · rename_i h97
        cases h
        exact ⟨(fun e => by cases e), fun _ => ⟨_, rfl, hN _ h97⟩, (fun e => by cases e), (show 1 ≤ 2 by decide)⟩
      · cases h
    · split at h
      · rename_i h97
        split at h
        · cases h; exact ShO.zero (fun e => by cases e)
        · split at h
          · cases ha : argsR n T inn (i + 2) with
            | inl e => rw [ha] at h; cases h
            | inr a => rw [ha] at h; cases h; exact ShO.zero (fun e => by cases e)
          · cases h
            exact ⟨(fun e => by cases e), (fun e => by cases e), fun _ => ⟨[(10, 0)], 11, _, rfl, Or.inl rfl, hN _ h97⟩, Nat.le_refl 2⟩
      · split at h
        · cases h; exact ShO.zero (fun e => by cases e)
        · split at h
          · cases h; exact ShO.zero (fun e => by cases e)
          · split at h
            · cases h; exact ShO.zero (fun e => by cases e)
            · cases h
theorem app_ne {a b : List Sp} (h : ¬ b = []) : ¬ a ++ b = [] := fun e => h (List.append_eq_nil_iff.mp e).2
theorem chain_sh {inn : Nat → PRes} (hN : ∀ i, tkd n T i = 97 → 0 ≤ tvl f n T i ∧ tvl f n T i ≤ 14348906) : ∀ {m : Nat} {q q2 : Nat × List Sp × Nat}, ShO q → chainL f n T inn m q = .inr q2 → ShO q2
  | 0, q, q2, hq, h => by rw [chainL] at h; cases h; exact hq
  | m + 1, q, q2, hq, h => by
    rw [chainL] at h
    split at h
    · split at h
      · rename_i h97
        split at h
        · cases ha : argsR n T inn (q.2.2 + 3) with
          | inl e => rw [ha] at h; cases h
          | inr a =>
            rw [ha] at h
            refine chain_sh hN (ShO.zero ?_) h
            unfold cllS
            exact app_ne (app_ne (fun e => by cases e))
        · exact chain_sh hN ⟨app_ne (fun e => by cases e), (fun e => by cases e), fun _ => ⟨q.2.1, _, _, rfl, by split <;> simp, hN _ h97⟩, Nat.le_refl 2⟩ h
      · unfold bad2 at h; cases h
    · cases h; exact hq
theorem chainR_sh {inn : Nat → PRes} (hN : ∀ i, tkd n T i = 97 → 0 ≤ tvl f n T i ∧ tvl f n T i ≤ 14348906) (hI : ShI inn) {i : Nat} {q : Nat × List Sp × Nat} (h : chainR f n T inn i = .inr q) : ShO q := by
  unfold chainR at h
  cases hf : firstR f n T inn i with
  | inl e => rw [hf] at h; cases h
  | inr q1 => rw [hf] at h; exact chain_sh hN (first_sh hN hI hf) h
theorem sign_sh {inn : Nat → PRes} (hN : ∀ i, tkd n T i = 97 → 0 ≤ tvl f n T i ∧ tvl f n T i ≤ 14348906) (hI : ShI inn) {i : Nat} {q : Nat × List Sp × Nat} (h : signR f n T inn i = .inr q) : ShO q := by
  unfold signR at h
  split at h
  · cases hf : chainR f n T inn (i + 1) with
    | inl e => rw [hf] at h; cases h
    | inr q1 => rw [hf] at h; cases h; exact ShO.zero (app_ne (fun e => by cases e))
  · exact chainR_sh hN hI h
theorem redu_ne {lv : Int} : ∀ {ws : List Wtg} {r : List Sp}, ¬ r = [] → ¬ (redu lv ws r).2 = []
  | [], _, h => h
  | w :: ws, r, h => by
    rw [redu]
    split
    · refine redu_ne ?_
      unfold join1
      split <;> exact app_ne (fun e => by cases e)
    · exact h
theorem redu_nil {lv : Int} {r : List Sp} : (redu lv [] r) = ([], r) := rfl
theorem eith_sh {inn : Nat → PRes} (hN : ∀ i, tkd n T i = 97 → 0 ≤ tvl f n T i ∧ tvl f n T i ≤ 14348906) (hI : ShI inn) : ∀ {m : Nat} {ws : List Wtg} {q q2 : Nat × List Sp × Nat}, ShO q → eithL f n T inn m ws q = .inr q2 → ShO q2
  | 0, ws, q, q2, hq, h => by rw [eithL] at h; cases h; exact hq
  | m + 1, ws, q, q2, hq, h => by
    rw [eithL] at h
    split at h
    · cases h
      by_cases hw : ws = []
      · subst hw
        rw [if_pos rfl, redu_nil, redu_nil]
        exact hq
      · rw [if_neg hw]
        exact ShO.zero (redu_ne (redu_ne hq.1))
    · cases hs : signR f n T inn (q.2.2 + 1) with
      | inl e => rw [hs] at h; cases h
      | inr q1 => rw [hs] at h; exact eith_sh hN hI (sign_sh hN hI hs) h
theorem choi_sh {inn : Nat → PRes} (hN : ∀ i, tkd n T i = 97 → 0 ≤ tvl f n T i ∧ tvl f n T i ≤ 14348906) (hI : ShI inn) {i : Nat} {q : Nat × List Sp × Nat} (h : choiR f n T inn i = .inr q) : ShO q := by
  unfold choiR at h
  cases hf : eithR f n T inn i with
  | inl e => rw [hf] at h; cases h
  | inr q1 =>
    have h1 : ShO q1 := by
      unfold eithR at hf
      cases hs : signR f n T inn i with
      | inl e => rw [hs] at hf; cases hf
      | inr q0 => rw [hs] at hf; exact eith_sh hN hI (sign_sh hN hI hs) hf
    rw [hf] at h
    dsimp only at h
    split at h
    · cases hx : inn (q1.2.2 + 1) with
      | inl e => rw [hx] at h; cases h
      | inr r => rw [hx] at h; cases h; exact ShO.zero (app_ne (hI _ _ hx).1)
    · split at h
      · cases hx : inn (q1.2.2 + 1) with
        | inl e => rw [hx] at h; cases h
        | inr y =>
          rw [hx] at h
          dsimp only at h
          split at h
          · cases hz : inn (y.2.2 + 1) with
            | inl e => rw [hz] at h; cases h
            | inr z => rw [hz] at h; cases h; exact ShO.zero (app_ne (hI _ _ hz).1)
          · unfold bad2 at h; cases h
      · cases h; exact h1
theorem inn_sh (hN : ∀ i, tkd n T i = 97 → 0 ≤ tvl f n T i ∧ tvl f n T i ≤ 14348906) : ∀ r, ShI (innR f n T r)
  | 0 => fun i q h => by cases h
  | r + 1 => fun i q h => choi_sh hN (inn_sh hN r) h
end shp

