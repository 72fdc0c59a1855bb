/-! THE TWIN's READING: operations -/
set_option maxRecDepth 100000
def catO (st b : Nat) : List Wtg → List Sp
  | [] => []
  | w :: ws => catO st b ws ++ encL st (b + (catO st b ws).length) w.2.2 ++ (if w.1 ≤ 2 then [(if w.1 = 2 then 32 else 33, 0)] else [])
def RelW (st b : Nat) : List Fm → List Wtg → Prop
  | [], [] => True
  | W :: own, w :: ws => (W 117 = w.1 ∧ (w.1 > 2 → W 116 = w.2.1) ∧ (w.1 ≤ 2 → W 118 = (st : Int) + b + (catO st b ws).length + w.2.2.length) ∧ 1 ≤ w.1 ∧ w.1 ≤ 5 ∧ 0 ≤ W 116 ∧ W 116 ≤ 30) ∧ RelW st b own ws
  | [], _ :: _ => False
  | _ :: _, [] => False
theorem RelW.len {st b : Nat} : ∀ {own : List Fm} {ws : List Wtg}, RelW st b own ws → own.length = ws.length
  | [], [], _ => rfl
  | _ :: _, _ :: _, h => by rw [List.length_cons, List.length_cons, RelW.len h.2]
  | [], _ :: _, h => h.elim
  | _ :: _, [], h => h.elim
theorem RelW.nil {st b : Nat} {own : List Fm} (h : RelW st b own []) : own = [] := by
  cases own with
  | nil => rfl
  | cons W own => exact h.elim
theorem RelW.top {st b : Nat} : ∀ {own : List Fm} {ws : List Wtg}, RelW st b own ws → top3F own = top3 ws
  | [], [], _ => rfl
  | W :: _, w :: _, h => by show decide (W 117 = 3) = decide (w.1 = 3); rw [h.1.1]
  | [], _ :: _, h => h.elim
  | _ :: _, [], h => h.elim
theorem catO_cons {st b : Nat} {w : Wtg} {ws : List Wtg} : (catO st b (w :: ws)).length = (catO st b ws).length + w.2.2.length + (if w.1 ≤ 2 then 1 else 0) := by
  rw [catO, List.length_append, List.length_append, encL_len]
  split <;> rfl
theorem RelW.ok {st b m : Nat} : ∀ {own : List Fm} {ws : List Wtg}, RelW st b own ws → b + (catO st b ws).length ≤ m → wOK st m own
  | [], [], _, _ => fun W h => absurd h List.not_mem_nil
  | W :: own, w :: ws, h, hm => fun V hV => by
    obtain ⟨⟨h1, h2, h3, h4, h5, h6, h7⟩, hr⟩ := h
    rw [catO_cons] at hm
    cases hV with
    | head => exact ⟨by omega, by omega, h6, by omega, fun hl => by have := h3 (by omega); rw [if_pos (by omega)] at hm; omega⟩
    | tail _ hV => exact RelW.ok hr (by omega) V hV
  | [], _ :: _, h, _ => h.elim
  | _ :: _, [], h, _ => h.elim
theorem isJ_op {s : Int} (h : 15 ≤ s ∧ s ≤ 31) : isJ s = false := by
  unfold isJ
  exact decide_eq_false (by omega)
def ltO (st : Nat) (out : List Sp) (ws : List Wtg) (r : List Sp) : List Sp := out ++ catO st out.length ws ++ encL st (out.length + (catO st out.length ws).length) r
theorem ltO_len {st : Nat} {out : List Sp} {ws : List Wtg} {r : List Sp} : (ltO st out ws r).length = out.length + (catO st out.length ws).length + r.length := by
  unfold ltO
  rw [List.length_append, List.length_append, encL_len]
theorem redF_redu {st : Nat} {out : List Sp} {lv lv' : Int} (hlv : ∀ l : Int, 1 ≤ l → l ≤ 5 → (l < lv' ↔ ¬ (l > lv ∨ l = lv ∧ ¬ lv = 3))) : ∀ (own : List Fm) (ws : List Wtg) (r : List Sp), RelW st out.length own ws → (∀ w, w ∈ ws → w.1 > 2 → 15 ≤ w.2.1 ∧ w.2.1 ≤ 31) → (redF st lv' own (ltO st out ws r)).2 = ltO st out (redu lv ws r).1 (redu lv ws r).2 ∧ RelW st out.length (redF st lv' own (ltO st out ws r)).1 (redu lv ws r).1 ∧ ∀ w, w ∈ (redu lv ws r).1 → w ∈ ws
  | [], [], r, _, _ => ⟨rfl, trivial, fun _ h => h⟩
  | W :: own, w :: ws, r, h, hop => by
    have h0 := h
    obtain ⟨⟨h1, h2, h3, h4, h5, h6, h7⟩, hr⟩ := h
    have hh := hlv w.1 h4 h5
    rw [redF, redu]
    by_cases hc : w.1 > lv ∨ w.1 = lv ∧ ¬ lv = 3
    · rw [if_neg (by rw [h1, hh]; exact fun q => q hc), if_pos hc]
      have ih := fun r' => redF_redu hlv own ws r' hr (fun v hv => hop v (List.mem_cons_of_mem _ hv))
      by_cases h8 : W 117 ≤ 2
      · rw [if_pos h8]
        have h9 := h3 (by omega)
        have e : ptc (ltO st out (w :: ws) r ++ [(34, 0)]) (W 118 - st).toNat ((st : Int) + (ltO st out (w :: ws) r).length + 1) = ltO st out ws (join1 w r) := by
          have hk : (W 118 - st).toNat = (out ++ catO st out.length ws ++ encL st (out.length + (catO st out.length ws).length) w.2.2).length := by
            rw [List.length_append, List.length_append, encL_len]; omega
          have hl : (ltO st out (w :: ws) r).length = out.length + (catO st out.length ws).length + w.2.2.length + 1 + r.length := by rw [ltO_len, catO_cons, if_pos (by omega)]; omega
          rw [hk, hl]
          unfold ltO join1
          have h8' : w.1 ≤ 2 := by omega
          rw [catO_cons, catO]
          simp only [if_pos h8']
          have e1 : out ++ (catO st out.length ws ++ encL st (out.length + (catO st out.length ws).length) w.2.2 ++ [(if w.1 = 2 then (32 : Int) else 33, (0 : Int))]) ++ encL st (out.length + ((catO st out.length ws).length + w.2.2.length + 1)) r ++ [((34 : Int), (0 : Int))]
            = (out ++ catO st out.length ws ++ encL st (out.length + (catO st out.length ws).length) w.2.2) ++ (if w.1 = 2 then (32 : Int) else 33, (0 : Int)) :: (encL st (out.length + ((catO st out.length ws).length + w.2.2.length + 1)) r ++ [((34 : Int), (0 : Int))]) := by simp only [List.append_assoc, List.singleton_append, List.cons_append, List.nil_append]
          rw [e1, ptc_at, encL_app, encL_app, encL_app, enc_one (b := _) (s := 34) rfl, encL, encL]
          unfold enc1
          have e2 : isJ (if w.1 = 2 then (32 : Int) else 33) = true := by split <;> rfl
          dsimp only
          rw [e2, if_pos rfl]
          simp only [List.append_assoc, List.singleton_append, List.cons_append, List.nil_append, List.length_append, List.length_cons, List.length_nil]
          rw [show out.length + (catO st out.length ws).length + (w.2.2.length + (0 + 1)) = out.length + ((catO st out.length ws).length + w.2.2.length + 1) by omega]
          rw [show (st : Int) + ((out.length + (catO st out.length ws).length + w.2.2.length + 1 + r.length : Nat) : Int) + 1 = st + ((out.length + (catO st out.length ws).length + w.2.2.length : Nat) : Int) + 1 + (r.length + 1) by omega]
        rw [e]
        obtain ⟨i1, i2, i3⟩ := ih (join1 w r)
        exact ⟨i1, i2, fun v hv => List.mem_cons_of_mem _ (i3 v hv)⟩
      · rw [if_neg h8]
        have e : ltO st out (w :: ws) r ++ [(W 116, 0)] = ltO st out ws (join1 w r) := by
          rw [h2 (by omega)]
          have ho := hop w (List.mem_cons_self ..) (by omega)
          unfold ltO join1
          rw [catO_cons, catO]
          have h8' : ¬ w.1 ≤ 2 := by omega
          simp only [if_neg h8']
          rw [encL_app, encL_app, enc_one (isJ_op ho)]
          simp only [List.append_assoc, List.append_nil, Nat.add_zero, Nat.add_assoc]
        rw [e]
        obtain ⟨i1, i2, i3⟩ := ih (join1 w r)
        exact ⟨i1, i2, fun v hv => List.mem_cons_of_mem _ (i3 v hv)⟩
    · rw [if_pos (by rw [h1, hh]; exact hc), if_neg hc]
      exact ⟨rfl, h0, fun _ h => h⟩
  | [], _ :: _, _, h, _ => h.elim
  | _ :: _, [], _, h, _ => h.elim

