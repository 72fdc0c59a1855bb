/-! SOUNDNESS: ends and calls -/
set_option maxRecDepth 100000
theorem acte_kind {op : Nat} {v : Int32} {a b c n : Nat} {ts : List Nat} {d m pc : Nat} {L : mL} {st : List Value} {G : mG} {q : mC ⊕ (mR ⊕ mC)} (h : acte op v a b c n ts d m pc L st G = some q) :
    (∃ y, q = .inl y ∧ nx G ≤ nx y.2.2.2.2.2 ∧ us G ≤ us y.2.2.2.2.2 ∧ y.2.1 = m ∧ y.1 = d) ∨ (∃ r, q = .inr (.inl r) ∧ (op = 40 ∨ op = 46 ∨ op = 47) ∧ nx G ≤ nx r.2 ∧ us G ≤ us r.2) ∨ (∃ y, q = .inr (.inr y) ∧ (op = 41 ∨ op = 42) ∧ y.2.2.2.2.2 = G) := by
  have hg : nx G ≤ nx (grid G) ∧ us G ≤ us (grid G) := by
    have hr : ∀ k G1, nx G1 ≤ nx (gridr k G1) ∧ us G1 ≤ us (gridr k G1) := by
      intro k
      induction k with
      | zero => intro G1; exact ⟨Nat.le_refl _, Nat.le_refl _⟩
      | succ k ih =>
        intro G1
        have := ih G1
        show nx G1 ≤ nx (al (gridr k G1) 51 5 5) ∧ us G1 ≤ us (al (gridr k G1) 51 5 5)
        rw [al_nx, al_us]
        omega
    have h1 := hr 13 (al G 60 13 13)
    rw [al_nx, al_us] at h1
    show nx G ≤ nx (gridr 13 (al G 60 13 13)) ∧ us G ≤ us (gridr 13 (al G 60 13 13))
    omega
  unfold acte at h
  split at h
  all_goals (repeat' split at h)
  all_goals first
    | (cases h; done)
    | (simp only [jmp, Option.some.injEq] at h; subst h; exact Or.inl ⟨_, rfl, Nat.le_refl _, Nat.le_refl _, rfl, rfl⟩)
    | (simp only [jmp, Option.some.injEq] at h; subst h; exact Or.inl ⟨_, rfl, by rw [al_nx]; omega, by rw [al_us]; omega, rfl, rfl⟩)
    | (simp only [jmp, Option.some.injEq] at h; subst h; exact Or.inl ⟨_, rfl, hg.1, hg.2, rfl, rfl⟩)
    | (rename_i hp; have hp1 := pv_spec hp; simp only [jmp, Option.some.injEq] at h; subst h; exact Or.inl ⟨_, rfl, by rw [hp1.2.2.1]; omega, by rw [hp1.2.2.2.1]; omega, rfl, rfl⟩)
    | (simp only [Option.some.injEq] at h; subst h; exact Or.inr (Or.inl ⟨_, rfl, by omega, Nat.le_refl _, Nat.le_refl _⟩))
    | (simp only [Option.some.injEq] at h; subst h; exact Or.inr (Or.inl ⟨_, rfl, by omega, by rw [al_nx]; omega, by rw [al_us]; omega⟩))
    | (simp only [Option.some.injEq] at h; subst h; exact Or.inr (Or.inr ⟨_, rfl, by omega, rfl⟩))
theorem act_kind {x : mC} {q : mC ⊕ (mR ⊕ mC)} (h : act x = some q) :
    (∃ y, q = .inl y ∧ nx x.2.2.2.2.2 ≤ nx y.2.2.2.2.2 ∧ us x.2.2.2.2.2 ≤ us y.2.2.2.2.2 ∧ y.2.1 = x.2.1 ∧ y.1 = x.1) ∨ (∃ r, q = .inr (.inl r) ∧ nx x.2.2.2.2.2 ≤ nx r.2 ∧ us x.2.2.2.2.2 ≤ us r.2) ∨ (∃ y, q = .inr (.inr y) ∧ y.2.2.2.2.2 = x.2.2.2.2.2) := by
  unfold act at h
  split at h
  · rcases acte_kind h with ⟨y, h1, h2⟩ | ⟨r, h1, -, h2⟩ | ⟨y, h1, -, h2⟩
    · exact Or.inl ⟨y, h1, h2⟩
    · exact Or.inr (Or.inl ⟨r, h1, h2⟩)
    · exact Or.inr (Or.inr ⟨y, h1, h2⟩)
  · cases h
theorem aft_kind {x : mC} {r : mR} {q : mC ⊕ mR} (h : aft x r = some q) : (∃ z, q = .inl z ∧ z.2.2.2.2.2 = r.2 ∧ z.2.1 = x.2.1 ∧ z.1 = x.1) ∨ (q = .inr r ∧ ∃ y, r.1 = .threw y) := by
  unfold aft at h
  split at h
  · split at h
    · cases h; exact Or.inl ⟨_, rfl, rfl, rfl, rfl⟩
    · cases h; exact Or.inl ⟨_, rfl, rfl, rfl, rfl⟩
    · rename_i y hy
      split at h
      · cases h; exact Or.inl ⟨_, rfl, rfl, rfl, rfl⟩
      · cases h; exact Or.inr ⟨rfl, y, hy⟩
  · cases h
/-- addresses and slots grow -/
theorem run_grow : ∀ (n : Nat) (x : mC) (r : mR), run n x = some r → nx x.2.2.2.2.2 ≤ nx r.2 ∧ us x.2.2.2.2.2 ≤ us r.2 := by
  intro n
  induction n with
  | zero => intro x r h; cases h
  | succ n ih =>
    intro x r h
    rw [run] at h
    cases ha : act x with
    | none => rw [ha] at h; cases h
    | some q =>
      rw [ha] at h
      rcases act_kind ha with ⟨y, rfl, h1, h2, -⟩ | ⟨r', rfl, h1, h2⟩ | ⟨y, rfl, h1⟩
      · have := ih y r h
        omega
      · cases h; exact ⟨h1, h2⟩
      · dsimp only at h
        cases hy : run n y with
        | none => rw [hy] at h; cases h
        | some r1 =>
          rw [hy] at h
          dsimp only at h
          have h3 := ih y r1 hy
          rw [h1] at h3
          cases hf : aft x r1 with
          | none => rw [hf] at h; cases h
          | some q2 =>
            rw [hf] at h
            rcases aft_kind hf with ⟨z, rfl, hz, -⟩ | ⟨rfl, -⟩
            · have h4 := ih z r h
              rw [hz] at h4
              omega
            · cases h; exact h3
theorem thr_tag {x : mC} {r : mR} {y : Nat} (h : act x = some (.inr (.inl r))) (hy : r.1 = .threw y) : tg r.2 y = 22 ∨ tg r.2 y = 23 := by
  unfold act at h
  split at h
  · rename_i en he
    rcases acte_kind h with ⟨z, q, -⟩ | ⟨r', q, hop, -⟩ | ⟨z, q, -⟩
    · cases q
    · cases q
      obtain ⟨op, v, a, b, c, n, ts⟩ := en
      obtain ⟨i, len, hdec, hok⟩ := ft_ok he (by dsimp only; dsimp only at hop; omega)
      dsimp only at h hop hok
      rcases hop with rfl | rfl | rfl
      · simp only [acte] at h
        split at h
        · cases h
          cases hy
          cases i <;> simp only [okI, Bool.and_eq_true, Bool.or_eq_true, beq_iff_eq, decide_eq_true_eq, Nat.reduceEqDiff, false_and, and_false, or_false, false_or, Bool.false_eq_true] at hok
          case new idx =>
            obtain ⟨-, ⟨⟨-, h22⟩, -⟩, -⟩ := hok
            show (if nx x.2.2.2.2.2 = nx x.2.2.2.2.2 then a else _) = 22 ∨ (if nx x.2.2.2.2.2 = nx x.2.2.2.2.2 then a else _) = 23
            rw [if_pos rfl]
            exact h22
          all_goals exact absurd hok (by simp)
        · cases h
      · simp only [acte] at h
        split at h
        · split at h
          · cases h; cases hy
          · cases h
        · cases h
      · simp only [acte] at h
        split at h
        · cases h; cases hy
        · cases h
    · cases q
  · cases h
theorem run_thr : ∀ (n : Nat) (x : mC) (r : mR), run n x = some r → ∀ y, r.1 = .threw y → tg r.2 y = 22 ∨ tg r.2 y = 23 := by
  intro n
  induction n with
  | zero => intro x r h; cases h
  | succ n ih =>
    intro x r h
    rw [run] at h
    cases ha : act x with
    | none => rw [ha] at h; cases h
    | some q =>
      rw [ha] at h
      rcases act_kind ha with ⟨y, rfl, -⟩ | ⟨r', rfl, -⟩ | ⟨y, rfl, -⟩
      · exact ih y r h
      · cases h; exact fun z hz => thr_tag ha hz
      · dsimp only at h
        cases hy : run n y with
        | none => rw [hy] at h; cases h
        | some r1 =>
          rw [hy] at h
          dsimp only at h
          cases hf : aft x r1 with
          | none => rw [hf] at h; cases h
          | some q2 =>
            rw [hf] at h
            rcases aft_kind hf with ⟨z, rfl, -⟩ | ⟨rfl, -⟩
            · exact ih z r h
            · cases h; exact ih y r hy
