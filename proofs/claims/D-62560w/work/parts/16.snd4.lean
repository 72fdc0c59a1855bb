set_option maxRecDepth 100000
section step
variable {D : mW} {Sta : State} {p : Program} {l : Launch} {e : Env} {R : Room} {s : State} {mi : MethodId} {args : Array Value} {below : List Frame} {meth : Method} {c : Code} {n0 u0 : Nat} {Q : State → Prop}
set_option maxHeartbeats 4000000 in
theorem gstep {m d pc : Nat} {L : mL} {st : List Value} {G : mG} {y : mC} (hZ : Base D Sta) (hC : Ctx D Sta p e s mi meth c m) (ha : act (d, m, pc, L, st, G) = some (.inl y))
    (hd : d ≤ R.frames ∧ 41 * d ≤ R.locals) (hn0 : n0 ≤ nx G ∧ u0 ≤ us G) (hrm : nx y.2.2.2.2.2 - n0 ≤ R.cells ∧ us y.2.2.2.2.2 - u0 ≤ R.slots)
    (hk : Gd D Sta p l e R s mi args below meth c n0 u0 Q y) : Gd D Sta p l e R s mi args below meth c n0 u0 Q (d, m, pc, L, st, G) := by
  intro H locs ls hR hRc hL hl
  obtain ⟨hB, hBC, hBA, hBS, hBK, hBM, hBN, hBI⟩ := hZ
  dsimp only at hR hRc hL ⊢
  obtain ⟨hx, hb, hml, hr, hown, hlocks, hW, hnm, htab, hs0, hs0', hfro, htr, hD⟩ := id hC
  cases he : ft m pc with
  | none => simp only [act, he] at ha; cases ha
  | some en =>
  obtain ⟨op, v, a, b, c', n, ts⟩ := en
  have h0 : ¬ op = 0 := by
    intro h0
    subst h0
    simp only [act, he] at ha
    cases ha
  obtain ⟨i, len, hdec, hok⟩ := ft_ok he h0
  simp only [act, he] at ha
  cases i
  case iload_n k =>
    simp only [okI, Bool.and_eq_true, beq_iff_eq] at hok
    obtain ⟨⟨⟨⟨rfl, rfl⟩, rfl⟩, rfl⟩, rfl⟩ := hok
    simp only [acte] at ha
    split at ha
    · rename_i w hw
      split at ha
      · rename_i ht
        cases ha
        cases w <;> simp only [tyo, Bool.false_eq_true] at ht
        exact lv_iload_n hx hb hdec rfl (hL.2.2.2 _ _ hw) (hk _ _ _ hR hRc hL hl)
      · cases ha
    · cases ha
  case iload k =>
    simp only [okI, Bool.and_eq_true, beq_iff_eq] at hok
    obtain ⟨⟨⟨⟨rfl, rfl⟩, rfl⟩, rfl⟩, rfl⟩ := hok
    simp only [acte] at ha
    split at ha
    · rename_i w hw
      split at ha
      · rename_i ht
        cases ha
        cases w <;> simp only [tyo, Bool.false_eq_true] at ht
        exact lv_iload hx hb hdec (hL.2.2.2 _ _ hw) (hk _ _ _ hR hRc hL hl)
      · cases ha
    · cases ha
  case lload_n k =>
    simp only [okI, Bool.and_eq_true, beq_iff_eq] at hok
    obtain ⟨⟨⟨⟨rfl, rfl⟩, rfl⟩, rfl⟩, rfl⟩ := hok
    simp only [acte] at ha
    split at ha
    · rename_i w hw
      split at ha
      · rename_i ht
        cases ha
        cases w <;> simp only [tyo, Bool.false_eq_true] at ht
        exact lv_lload_n hx hb hdec rfl (hL.2.2.2 _ _ hw) (hk _ _ _ hR hRc hL hl)
      · cases ha
    · cases ha
  case lload k =>
    simp only [okI, Bool.and_eq_true, beq_iff_eq] at hok
    obtain ⟨⟨⟨⟨rfl, rfl⟩, rfl⟩, rfl⟩, rfl⟩ := hok
    simp only [acte] at ha
    split at ha
    · rename_i w hw
      split at ha
      · rename_i ht
        cases ha
        cases w <;> simp only [tyo, Bool.false_eq_true] at ht
        exact lv_lload hx hb hdec (hL.2.2.2 _ _ hw) (hk _ _ _ hR hRc hL hl)
      · cases ha
    · cases ha
  case dload_n k =>
    simp only [okI, Bool.and_eq_true, beq_iff_eq] at hok
    obtain ⟨⟨⟨⟨rfl, rfl⟩, rfl⟩, rfl⟩, rfl⟩ := hok
    simp only [acte] at ha
    split at ha
    · rename_i w hw
      split at ha
      · rename_i ht
        cases ha
        cases w <;> simp only [tyo, Bool.false_eq_true] at ht
        exact lv_dload_n hx hb hdec rfl (hL.2.2.2 _ _ hw) (hk _ _ _ hR hRc hL hl)
      · cases ha
    · cases ha
  case dload k =>
    simp only [okI, Bool.and_eq_true, beq_iff_eq] at hok
    obtain ⟨⟨⟨⟨rfl, rfl⟩, rfl⟩, rfl⟩, rfl⟩ := hok
    simp only [acte] at ha
    split at ha
    · rename_i w hw
      split at ha
      · rename_i ht
        cases ha
        cases w <;> simp only [tyo, Bool.false_eq_true] at ht
        exact lv_dload hx hb hdec (hL.2.2.2 _ _ hw) (hk _ _ _ hR hRc hL hl)
      · cases ha
    · cases ha
  case aload_n k =>
    simp only [okI, Bool.and_eq_true, beq_iff_eq] at hok
    obtain ⟨⟨⟨⟨rfl, rfl⟩, rfl⟩, rfl⟩, rfl⟩ := hok
    simp only [acte] at ha
    split at ha
    · rename_i w hw
      split at ha
      · rename_i ht
        cases ha
        cases w <;> simp only [tyo, Bool.false_eq_true] at ht
        · exact lv_aload_nN hx hb hdec rfl (hL.2.2.2 _ _ hw) (hk _ _ _ hR hRc hL hl)
        · exact lv_aload_n hx hb hdec rfl (hL.2.2.2 _ _ hw) (hk _ _ _ hR hRc hL hl)
      · cases ha
    · cases ha
  case aload k =>
    simp only [okI, Bool.and_eq_true, beq_iff_eq] at hok
    obtain ⟨⟨⟨⟨rfl, rfl⟩, rfl⟩, rfl⟩, rfl⟩ := hok
    simp only [acte] at ha
    split at ha
    · rename_i w hw
      split at ha
      · rename_i ht
        cases ha
        cases w <;> simp only [tyo, Bool.false_eq_true] at ht
        · exact lv_aloadN hx hb hdec (hL.2.2.2 _ _ hw) (hk _ _ _ hR hRc hL hl)
        · exact lv_aload hx hb hdec (hL.2.2.2 _ _ hw) (hk _ _ _ hR hRc hL hl)
      · cases ha
    · cases ha
  case istore_n k =>
    simp only [okI, Bool.and_eq_true, beq_iff_eq] at hok
    obtain ⟨⟨⟨⟨rfl, rfl⟩, rfl⟩, rfl⟩, rfl⟩ := hok
    simp only [acte] at ha
    split at ha
    · rename_i w r
      split at ha
      · rename_i ht
        obtain ⟨ht, hp, hlt⟩ := ht
        cases ha
        cases w <;> simp only [tyo, Bool.false_eq_true] at ht
        · exact lv_istore_n (lv := lvl D L) hx hb hdec rfl hL.has (by rw [← hL.2.1]; exact hlt) rfl (fun ls' h' => hk _ _ _ hR hRc (lvR.store1 hD hL.2.1 hp h') hl)
      · cases ha
    · cases ha
  case istore k =>
    simp only [okI, Bool.and_eq_true, beq_iff_eq] at hok
    obtain ⟨⟨⟨⟨rfl, rfl⟩, rfl⟩, rfl⟩, rfl⟩ := hok
    simp only [acte] at ha
    split at ha
    · rename_i w r
      split at ha
      · rename_i ht
        obtain ⟨ht, hp, hlt⟩ := ht
        cases ha
        cases w <;> simp only [tyo, Bool.false_eq_true] at ht
        · exact lv_istore (lv := lvl D L) hx hb hdec hL.has (by rw [← hL.2.1]; exact hlt) rfl (fun ls' h' => hk _ _ _ hR hRc (lvR.store1 hD hL.2.1 hp h') hl)
      · cases ha
    · cases ha
  case astore_n k =>
    simp only [okI, Bool.and_eq_true, beq_iff_eq] at hok
    obtain ⟨⟨⟨⟨rfl, rfl⟩, rfl⟩, rfl⟩, rfl⟩ := hok
    simp only [acte] at ha
    split at ha
    · rename_i w r
      split at ha
      · rename_i ht
        obtain ⟨ht, hp, hlt⟩ := ht
        cases ha
        cases w <;> simp only [tyo, Bool.false_eq_true] at ht
        · exact lv_astore_nN (lv := lvl D L) hx hb hdec rfl hL.has (by rw [← hL.2.1]; exact hlt) rfl (fun ls' h' => hk _ _ _ hR hRc (lvR.store1 hD hL.2.1 hp h') hl)
        · exact lv_astore_n (lv := lvl D L) hx hb hdec rfl hL.has (by rw [← hL.2.1]; exact hlt) rfl (fun ls' h' => hk _ _ _ hR hRc (lvR.store1 hD hL.2.1 hp h') hl)
      · cases ha
    · cases ha
  case astore k =>
    simp only [okI, Bool.and_eq_true, beq_iff_eq] at hok
    obtain ⟨⟨⟨⟨rfl, rfl⟩, rfl⟩, rfl⟩, rfl⟩ := hok
    simp only [acte] at ha
    split at ha
    · rename_i w r
      split at ha
      · rename_i ht
        obtain ⟨ht, hp, hlt⟩ := ht
        cases ha
        cases w <;> simp only [tyo, Bool.false_eq_true] at ht
        · exact lv_astoreN (lv := lvl D L) hx hb hdec hL.has (by rw [← hL.2.1]; exact hlt) rfl (fun ls' h' => hk _ _ _ hR hRc (lvR.store1 hD hL.2.1 hp h') hl)
        · exact lv_astore (lv := lvl D L) hx hb hdec hL.has (by rw [← hL.2.1]; exact hlt) rfl (fun ls' h' => hk _ _ _ hR hRc (lvR.store1 hD hL.2.1 hp h') hl)
      · cases ha
    · cases ha
  case lstore_n k =>
    simp only [okI, Bool.and_eq_true, beq_iff_eq] at hok
    obtain ⟨⟨⟨⟨rfl, rfl⟩, rfl⟩, rfl⟩, rfl⟩ := hok
    simp only [acte] at ha
    split at ha
    · rename_i w r
      split at ha
      · rename_i ht
        obtain ⟨ht, hp, hlt⟩ := ht
        cases ha
        cases w <;> simp only [tyo, Bool.false_eq_true] at ht
        · exact lv_lstore_n (lv := lvl D L) hx hb hdec rfl hL.has (by rw [← hL.2.1]; exact hlt) rfl (fun ls' h' => hk _ _ _ hR hRc (lvR.store2 hD hL.2.1 hp h') hl)
      · cases ha
    · cases ha
  case lstore k =>
    simp only [okI, Bool.and_eq_true, beq_iff_eq] at hok
    obtain ⟨⟨⟨⟨rfl, rfl⟩, rfl⟩, rfl⟩, rfl⟩ := hok
    simp only [acte] at ha
    split at ha
    · rename_i w r
      split at ha
      · rename_i ht
        obtain ⟨ht, hp, hlt⟩ := ht
        cases ha
        cases w <;> simp only [tyo, Bool.false_eq_true] at ht
        · exact lv_lstore (lv := lvl D L) hx hb hdec hL.has (by rw [← hL.2.1]; exact hlt) rfl (fun ls' h' => hk _ _ _ hR hRc (lvR.store2 hD hL.2.1 hp h') hl)
      · cases ha
    · cases ha
  case dstore_n k =>
    simp only [okI, Bool.and_eq_true, beq_iff_eq] at hok
    obtain ⟨⟨⟨⟨rfl, rfl⟩, rfl⟩, rfl⟩, rfl⟩ := hok
    simp only [acte] at ha
    split at ha
    · rename_i w r
      split at ha
      · rename_i ht
        obtain ⟨ht, hp, hlt⟩ := ht
        cases ha
        cases w <;> simp only [tyo, Bool.false_eq_true] at ht
        · exact lv_dstore_n (lv := lvl D L) hx hb hdec rfl hL.has (by rw [← hL.2.1]; exact hlt) rfl (fun ls' h' => hk _ _ _ hR hRc (lvR.store2 hD hL.2.1 hp h') hl)
      · cases ha
    · cases ha
  case dstore k =>
    simp only [okI, Bool.and_eq_true, beq_iff_eq] at hok
    obtain ⟨⟨⟨⟨rfl, rfl⟩, rfl⟩, rfl⟩, rfl⟩ := hok
    simp only [acte] at ha
    split at ha
    · rename_i w r
      split at ha
      · rename_i ht
        obtain ⟨ht, hp, hlt⟩ := ht
        cases ha
        cases w <;> simp only [tyo, Bool.false_eq_true] at ht
        · exact lv_dstore (lv := lvl D L) hx hb hdec hL.has (by rw [← hL.2.1]; exact hlt) rfl (fun ls' h' => hk _ _ _ hR hRc (lvR.store2 hD hL.2.1 hp h') hl)
      · cases ha
    · cases ha
  case iconst k =>
    simp only [okI, Bool.and_eq_true, beq_iff_eq] at hok
    obtain ⟨⟨⟨rfl, rfl⟩, rfl⟩, rfl⟩ := hok
    simp only [acte, jmp] at ha
    cases ha
    exact lv_iconst hx hb hdec rfl (hk _ _ _ hR hRc hL hl)
  case bipush k =>
    simp only [okI, Bool.and_eq_true, beq_iff_eq] at hok
    obtain ⟨⟨⟨rfl, rfl⟩, rfl⟩, rfl⟩ := hok
    simp only [acte, jmp] at ha
    cases ha
    exact lv_bipush hx hb hdec rfl (hk _ _ _ hR hRc hL hl)
  case sipush k =>
    simp only [okI, Bool.and_eq_true, beq_iff_eq] at hok
    obtain ⟨⟨⟨rfl, rfl⟩, rfl⟩, rfl⟩ := hok
    simp only [acte, jmp] at ha
    cases ha
    exact lv_sipush hx hb hdec rfl (hk _ _ _ hR hRc hL hl)
  case lconst k =>
    simp only [okI, Bool.and_eq_true, beq_iff_eq] at hok
    obtain ⟨⟨⟨rfl, rfl⟩, rfl⟩, rfl⟩ := hok
    simp only [acte, jmp] at ha
    cases ha
    exact lv_lconst hx hb hdec rfl (hk _ _ _ hR hRc hL hl)
  case aconst_null =>
    simp only [okI, Bool.and_eq_true, beq_iff_eq] at hok
    obtain ⟨⟨rfl, rfl⟩, rfl⟩ := hok
    simp only [acte, jmp] at ha
    cases ha
    exact lv_null hx hb hdec (hk _ _ _ hR hRc hL hl)
  case dconst k =>
    simp only [okI, Bool.and_eq_true, beq_iff_eq] at hok
    obtain ⟨⟨⟨⟨rfl, rfl⟩, hk0⟩, rfl⟩, rfl⟩ := hok
    have hk1 : k = 0 := Fin.ext hk0
    subst hk1
    simp only [acte, jmp] at ha
    cases ha
    exact lv_dconst0 hx hb hdec (hk _ _ _ hR hRc hL hl)
  case iadd =>
    simp only [okI, Bool.and_eq_true, beq_iff_eq] at hok
    obtain ⟨⟨⟨rfl, rfl⟩, rfl⟩, rfl⟩ := hok
    simp only [acte] at ha
    split at ha
    · cases ha
      exact lv_iadd hx hb hdec (hk _ _ _ hR hRc hL hl)
    · cases ha
  case isub =>
    simp only [okI, Bool.and_eq_true, beq_iff_eq] at hok
    obtain ⟨⟨⟨rfl, rfl⟩, rfl⟩, rfl⟩ := hok
    simp only [acte] at ha
    split at ha
    · cases ha
      exact lv_isub hx hb hdec (hk _ _ _ hR hRc hL hl)
    · cases ha
  case imul =>
    simp only [okI, Bool.and_eq_true, beq_iff_eq] at hok
    obtain ⟨⟨⟨rfl, rfl⟩, rfl⟩, rfl⟩ := hok
    simp only [acte] at ha
    split at ha
    · cases ha
      exact lv_imul hx hb hdec (hk _ _ _ hR hRc hL hl)
    · cases ha
  case iand =>
    simp only [okI, Bool.and_eq_true, beq_iff_eq] at hok
    obtain ⟨⟨⟨rfl, rfl⟩, rfl⟩, rfl⟩ := hok
    simp only [acte] at ha
    split at ha
    · cases ha
      exact lv_iand hx hb hdec (hk _ _ _ hR hRc hL hl)
    · cases ha
  case ishr =>
    simp only [okI, Bool.and_eq_true, beq_iff_eq] at hok
    obtain ⟨⟨⟨rfl, rfl⟩, rfl⟩, rfl⟩ := hok
    simp only [acte] at ha
    split at ha
    · cases ha
      exact lv_ishr hx hb hdec (hk _ _ _ hR hRc hL hl)
    · cases ha
  case ladd =>
    simp only [okI, Bool.and_eq_true, beq_iff_eq] at hok
    obtain ⟨⟨⟨rfl, rfl⟩, rfl⟩, rfl⟩ := hok
    simp only [acte] at ha
    split at ha
    · cases ha
      exact lv_ladd hx hb hdec (hk _ _ _ hR hRc hL hl)
    · cases ha
  case lsub =>
    simp only [okI, Bool.and_eq_true, beq_iff_eq] at hok
    obtain ⟨⟨⟨rfl, rfl⟩, rfl⟩, rfl⟩ := hok
    simp only [acte] at ha
    split at ha
    · cases ha
      exact lv_lsub hx hb hdec (hk _ _ _ hR hRc hL hl)
    · cases ha
  case lmul =>
    simp only [okI, Bool.and_eq_true, beq_iff_eq] at hok
    obtain ⟨⟨⟨rfl, rfl⟩, rfl⟩, rfl⟩ := hok
    simp only [acte] at ha
    split at ha
    · cases ha
      exact lv_lmul hx hb hdec (hk _ _ _ hR hRc hL hl)
    · cases ha
  case land =>
    simp only [okI, Bool.and_eq_true, beq_iff_eq] at hok
    obtain ⟨⟨⟨rfl, rfl⟩, rfl⟩, rfl⟩ := hok
    simp only [acte] at ha
    split at ha
    · cases ha
      exact lv_land hx hb hdec (hk _ _ _ hR hRc hL hl)
    · cases ha
  case lor =>
    simp only [okI, Bool.and_eq_true, beq_iff_eq] at hok
    obtain ⟨⟨⟨rfl, rfl⟩, rfl⟩, rfl⟩ := hok
    simp only [acte] at ha
    split at ha
    · cases ha
      exact lv_lor hx hb hdec (hk _ _ _ hR hRc hL hl)
    · cases ha
  case lshl =>
    simp only [okI, Bool.and_eq_true, beq_iff_eq] at hok
    obtain ⟨⟨⟨rfl, rfl⟩, rfl⟩, rfl⟩ := hok
    simp only [acte] at ha
    split at ha
    · cases ha
      exact lv_lshl hx hb hdec rfl (hk _ _ _ hR hRc hL hl)
    · cases ha
  case lshr =>
    simp only [okI, Bool.and_eq_true, beq_iff_eq] at hok
    obtain ⟨⟨⟨rfl, rfl⟩, rfl⟩, rfl⟩ := hok
    simp only [acte] at ha
    split at ha
    · cases ha
      exact lv_lshr hx hb hdec rfl (hk _ _ _ hR hRc hL hl)
    · cases ha
  case idiv =>
    simp only [okI, Bool.and_eq_true, beq_iff_eq] at hok
    obtain ⟨⟨⟨rfl, rfl⟩, rfl⟩, rfl⟩ := hok
    simp only [acte] at ha
    split at ha
    · split at ha
      · cases ha
      · rename_i hne
        cases ha
        exact lv_idiv hx hb hdec hne (hk _ _ _ hR hRc hL hl)
    · cases ha
  case irem =>
    simp only [okI, Bool.and_eq_true, beq_iff_eq] at hok
    obtain ⟨⟨⟨rfl, rfl⟩, rfl⟩, rfl⟩ := hok
    simp only [acte] at ha
    split at ha
    · split at ha
      · cases ha
      · rename_i hne
        cases ha
        exact lv_irem hx hb hdec hne (hk _ _ _ hR hRc hL hl)
    · cases ha
  case ldiv =>
    simp only [okI, Bool.and_eq_true, beq_iff_eq] at hok
    obtain ⟨⟨⟨rfl, rfl⟩, rfl⟩, rfl⟩ := hok
    simp only [acte] at ha
    split at ha
    · split at ha
      · cases ha
      · rename_i hne
        cases ha
        exact lv_ldiv hx hb hdec hne (hk _ _ _ hR hRc hL hl)
    · cases ha
  case lrem =>
    simp only [okI, Bool.and_eq_true, beq_iff_eq] at hok
    obtain ⟨⟨⟨rfl, rfl⟩, rfl⟩, rfl⟩ := hok
    simp only [acte] at ha
    split at ha
    · split at ha
      · cases ha
      · rename_i hne
        cases ha
        exact lv_lrem hx hb hdec hne (hk _ _ _ hR hRc hL hl)
    · cases ha
  case ineg =>
    simp only [okI, Bool.and_eq_true, beq_iff_eq] at hok
    obtain ⟨⟨⟨rfl, rfl⟩, rfl⟩, rfl⟩ := hok
    simp only [acte] at ha
    split at ha
    · rw [if_pos trivial] at ha
      cases ha
      exact lv_ineg hx hb hdec (hk _ _ _ hR hRc hL hl)
    · cases ha
  case i2c =>
    simp only [okI, Bool.and_eq_true, beq_iff_eq] at hok
    obtain ⟨⟨⟨rfl, rfl⟩, rfl⟩, rfl⟩ := hok
    simp only [acte] at ha
    split at ha
    · rw [if_neg (by decide)] at ha
      split at ha
      · rename_i hc
        cases ha
        exact lv_i2c hx hb hdec (chr_narrow hc) (hk _ _ _ hR hRc hL hl)
      · cases ha
    · cases ha
  case lneg =>
    simp only [okI, Bool.and_eq_true, beq_iff_eq] at hok
    obtain ⟨⟨rfl, rfl⟩, rfl⟩ := hok
    simp only [acte] at ha
    split at ha
    · cases ha
      exact lv_lneg hx hb hdec (hk _ _ _ hR hRc hL hl)
    · cases ha
  case dneg =>
    simp only [okI, Bool.and_eq_true, beq_iff_eq] at hok
    obtain ⟨⟨rfl, rfl⟩, rfl⟩ := hok
    simp only [acte] at ha
    split at ha
    · cases ha
      exact lv_dneg hx hb hdec (hk _ _ _ hR hRc hL hl)
    · cases ha
  case lcmp =>
    simp only [okI, Bool.and_eq_true, beq_iff_eq] at hok
    obtain ⟨⟨rfl, rfl⟩, rfl⟩ := hok
    simp only [acte] at ha
    split at ha
    · cases ha
      exact W.lcmp hx hb hdec (hk _ _ _ hR hRc hL hl)
    · cases ha
  case i2l =>
    simp only [okI, Bool.and_eq_true, beq_iff_eq] at hok
    obtain ⟨⟨⟨rfl, rfl⟩, rfl⟩, rfl⟩ := hok
    simp only [acte] at ha
    split at ha <;> first | (cases ha; done) | (rename_i h1; cases h1; done) | skip
    all_goals first
      | (cases ha; exact lv_i2l hx hb hdec rfl (hk _ _ _ hR hRc hL hl))
      | (exfalso; simp_all; done)
  case l2i =>
    simp only [okI, Bool.and_eq_true, beq_iff_eq] at hok
    obtain ⟨⟨⟨rfl, rfl⟩, rfl⟩, rfl⟩ := hok
    simp only [acte] at ha
    split at ha <;> first | (cases ha; done) | (rename_i h1; cases h1; done) | skip
    all_goals first
      | (cases ha; exact lv_l2i hx hb hdec rfl (hk _ _ _ hR hRc hL hl))
      | (exfalso; simp_all; done)
  case i2d =>
    simp only [okI, Bool.and_eq_true, beq_iff_eq] at hok
    obtain ⟨⟨⟨rfl, rfl⟩, rfl⟩, rfl⟩ := hok
    simp only [acte] at ha
    split at ha <;> first | (cases ha; done) | (rename_i h1; cases h1; done) | skip
    all_goals first
      | (cases ha; exact lv_i2d hx hb hdec (hk _ _ _ hR hRc hL hl))
      | (exfalso; simp_all; done)
  case d2i =>
    simp only [okI, Bool.and_eq_true, beq_iff_eq] at hok
    obtain ⟨⟨⟨rfl, rfl⟩, rfl⟩, rfl⟩ := hok
    simp only [acte] at ha
    split at ha <;> first | (cases ha; done) | (rename_i h1; cases h1; done) | skip
    all_goals first
      | (cases ha; exact lv_d2i hx hb hdec (hk _ _ _ hR hRc hL hl))
      | (exfalso; simp_all; done)
  case l2d =>
    simp only [okI, Bool.and_eq_true, beq_iff_eq] at hok
    obtain ⟨⟨⟨rfl, rfl⟩, rfl⟩, rfl⟩ := hok
    simp only [acte] at ha
    split at ha <;> first | (cases ha; done) | (rename_i h1; cases h1; done) | skip
    all_goals first
      | (cases ha; exact lv_l2d hx hb hdec (hk _ _ _ hR hRc hL hl))
      | (exfalso; simp_all; done)
  case dadd =>
    simp only [okI, Bool.and_eq_true, beq_iff_eq] at hok
    obtain ⟨⟨⟨rfl, rfl⟩, rfl⟩, rfl⟩ := hok
    simp only [acte] at ha
    split at ha
    · split at ha
      · rename_i hnn
        cases ha
        exact lv_dadd hx hb hdec (by unfold nonan at hnn; unfold vf_n64; exact of_decide_eq_true hnn) (hk _ _ _ hR hRc hL hl)
      · cases ha
    · cases ha
  case dsub =>
    simp only [okI, Bool.and_eq_true, beq_iff_eq] at hok
    obtain ⟨⟨⟨rfl, rfl⟩, rfl⟩, rfl⟩ := hok
    simp only [acte] at ha
    split at ha
    · split at ha
      · rename_i hnn
        cases ha
        exact lv_dsub hx hb hdec (by unfold nonan at hnn; unfold vf_n64; exact of_decide_eq_true hnn) (hk _ _ _ hR hRc hL hl)
      · cases ha
    · cases ha
  case dmul =>
    simp only [okI, Bool.and_eq_true, beq_iff_eq] at hok
    obtain ⟨⟨⟨rfl, rfl⟩, rfl⟩, rfl⟩ := hok
    simp only [acte] at ha
    split at ha
    · split at ha
      · rename_i hnn
        cases ha
        exact lv_dmul hx hb hdec (by unfold nonan at hnn; unfold vf_n64; exact of_decide_eq_true hnn) (hk _ _ _ hR hRc hL hl)
      · cases ha
    · cases ha
  case ddiv =>
    simp only [okI, Bool.and_eq_true, beq_iff_eq] at hok
    obtain ⟨⟨⟨rfl, rfl⟩, rfl⟩, rfl⟩ := hok
    simp only [acte] at ha
    split at ha
    · split at ha
      · rename_i hnn
        cases ha
        exact lv_ddiv hx hb hdec (by unfold nonan at hnn; unfold vf_n64; exact of_decide_eq_true hnn) (hk _ _ _ hR hRc hL hl)
      · cases ha
    · cases ha
  case dcmp o =>
    cases o
    all_goals
      simp only [okI, Bool.and_eq_true, beq_iff_eq] at hok
      obtain ⟨⟨⟨rfl, rfl⟩, rfl⟩, rfl⟩ := hok
      simp only [acte] at ha
      split at ha
      · cases ha
        exact lv_dcmp hx hb hdec (hk _ _ _ hR hRc hL hl)
      · cases ha
  case goto o =>
    simp only [okI, Bool.and_eq_true, beq_iff_eq, decide_eq_true_eq] at hok
    obtain ⟨⟨rfl, ht⟩, rfl⟩ := hok
    simp only [acte, jmp] at ha
    cases ha
    exact lv_goto hx hb hdec ht (hk _ _ _ hR hRc hL hl)
  case ifCond k o =>
    simp only [okI, Bool.and_eq_true, beq_iff_eq, decide_eq_true_eq] at hok
    obtain ⟨⟨⟨⟨rfl, hb'⟩, ht⟩, rfl⟩, rfl⟩ := hok
    subst hb'
    simp only [acte] at ha
    split at ha
    · cases k
      · refine lv_if_eq hx hb hdec ht (fun hc => ?_) (fun hc => ?_)
        · rw [if_pos (by unfold cndOf cnd; exact decide_eq_true hc)] at ha
          cases ha
          exact (hk _ _ _ hR hRc hL hl)
        · rw [if_neg (by unfold cndOf cnd; intro q; exact hc (of_decide_eq_true q))] at ha
          cases ha
          exact (hk _ _ _ hR hRc hL hl)
      · refine lv_if_ne hx hb hdec ht (fun hc => ?_) (fun hc => ?_)
        · rw [if_pos (by unfold cndOf cnd; exact decide_eq_true hc)] at ha
          cases ha
          exact (hk _ _ _ hR hRc hL hl)
        · rw [if_neg (by unfold cndOf cnd; intro q; exact (of_decide_eq_true q) hc)] at ha
          cases ha
          exact (hk _ _ _ hR hRc hL hl)
      · refine lv_if_lt hx hb hdec ht (fun hc => ?_) (fun hc => ?_)
        · rw [if_pos (by unfold cndOf cnd; exact decide_eq_true hc)] at ha
          cases ha
          exact (hk _ _ _ hR hRc hL hl)
        · rw [if_neg (by unfold cndOf cnd; intro q; exact hc (of_decide_eq_true q))] at ha
          cases ha
          exact (hk _ _ _ hR hRc hL hl)
      · refine lv_if_ge hx hb hdec ht (fun hc => ?_) (fun hc => ?_)
        · rw [if_pos (by unfold cndOf cnd; exact decide_eq_true hc)] at ha
          cases ha
          exact (hk _ _ _ hR hRc hL hl)
        · rw [if_neg (by unfold cndOf cnd; intro q; exact hc (of_decide_eq_true q))] at ha
          cases ha
          exact (hk _ _ _ hR hRc hL hl)
      · refine lv_if_gt hx hb hdec ht (fun hc => ?_) (fun hc => ?_)
        · rw [if_pos (by unfold cndOf cnd; exact decide_eq_true hc)] at ha
          cases ha
          exact (hk _ _ _ hR hRc hL hl)
        · rw [if_neg (by unfold cndOf cnd; intro q; exact hc (of_decide_eq_true q))] at ha
          cases ha
          exact (hk _ _ _ hR hRc hL hl)
      · refine lv_if_le hx hb hdec ht (fun hc => ?_) (fun hc => ?_)
        · rw [if_pos (by unfold cndOf cnd; exact decide_eq_true hc)] at ha
          cases ha
          exact (hk _ _ _ hR hRc hL hl)
        · rw [if_neg (by unfold cndOf cnd; intro q; exact hc (of_decide_eq_true q))] at ha
          cases ha
          exact (hk _ _ _ hR hRc hL hl)
    · cases ha
  case if_icmp k o =>
    simp only [okI, Bool.and_eq_true, beq_iff_eq, decide_eq_true_eq] at hok
    obtain ⟨⟨⟨⟨rfl, hb'⟩, ht⟩, rfl⟩, rfl⟩ := hok
    subst hb'
    simp only [acte] at ha
    split at ha
    · cases k
      · refine lv_icmp_eq hx hb hdec ht (fun hc => ?_) (fun hc => ?_)
        · rw [if_pos (by unfold cndOf cnd; exact decide_eq_true hc)] at ha
          cases ha
          exact (hk _ _ _ hR hRc hL hl)
        · rw [if_neg (by unfold cndOf cnd; intro q; exact hc (of_decide_eq_true q))] at ha
          cases ha
          exact (hk _ _ _ hR hRc hL hl)
      · refine lv_icmp_ne hx hb hdec ht (fun hc => ?_) (fun hc => ?_)
        · rw [if_pos (by unfold cndOf cnd; exact decide_eq_true hc)] at ha
          cases ha
          exact (hk _ _ _ hR hRc hL hl)
        · rw [if_neg (by unfold cndOf cnd; intro q; exact (of_decide_eq_true q) hc)] at ha
          cases ha
          exact (hk _ _ _ hR hRc hL hl)
      · refine lv_icmp_lt hx hb hdec ht (fun hc => ?_) (fun hc => ?_)
        · rw [if_pos (by unfold cndOf cnd; exact decide_eq_true hc)] at ha
          cases ha
          exact (hk _ _ _ hR hRc hL hl)
        · rw [if_neg (by unfold cndOf cnd; intro q; exact hc (of_decide_eq_true q))] at ha
          cases ha
          exact (hk _ _ _ hR hRc hL hl)
      · refine lv_icmp_ge hx hb hdec ht (fun hc => ?_) (fun hc => ?_)
        · rw [if_pos (by unfold cndOf cnd; exact decide_eq_true hc)] at ha
          cases ha
          exact (hk _ _ _ hR hRc hL hl)
        · rw [if_neg (by unfold cndOf cnd; intro q; exact hc (of_decide_eq_true q))] at ha
          cases ha
          exact (hk _ _ _ hR hRc hL hl)
      · refine lv_icmp_gt hx hb hdec ht (fun hc => ?_) (fun hc => ?_)
        · rw [if_pos (by unfold cndOf cnd; exact decide_eq_true hc)] at ha
          cases ha
          exact (hk _ _ _ hR hRc hL hl)
        · rw [if_neg (by unfold cndOf cnd; intro q; exact hc (of_decide_eq_true q))] at ha
          cases ha
          exact (hk _ _ _ hR hRc hL hl)
      · refine lv_icmp_le hx hb hdec ht (fun hc => ?_) (fun hc => ?_)
        · rw [if_pos (by unfold cndOf cnd; exact decide_eq_true hc)] at ha
          cases ha
          exact (hk _ _ _ hR hRc hL hl)
        · rw [if_neg (by unfold cndOf cnd; intro q; exact hc (of_decide_eq_true q))] at ha
          cases ha
          exact (hk _ _ _ hR hRc hL hl)
    · cases ha
  case iinc k x =>
    simp only [okI, Bool.and_eq_true, beq_iff_eq] at hok
    obtain ⟨⟨⟨⟨rfl, rfl⟩, rfl⟩, rfl⟩, rfl⟩ := hok
    simp only [acte] at ha
    split at ha
    · rename_i z hz
      split at ha
      · rename_i ht
        obtain ⟨hp, hlt⟩ := ht
        cases ha
        have hmem : (a, Value.int z) ∈ lvl D L := lvl_mem.mpr ⟨.int z, hz, rfl⟩
        obtain ⟨q, hq⟩ := List.mem_iff_getElem?.mp hmem
        exact lv_iinc (k := q) (lv := lvl D L) hx hb hdec hL.has hq rfl (by rw [← hL.2.1]; exact hlt) rfl (fun ls' h' => hk _ _ _ hR hRc (lvR.store1 (v := .int _) hD hL.2.1 hp h') hl)
      · cases ha
    · cases ha
  case dup =>
    simp only [okI, Bool.and_eq_true, beq_iff_eq] at hok
    obtain ⟨⟨rfl, rfl⟩, rfl⟩ := hok
    simp only [acte] at ha
    split at ha
    · rename_i w r
      split at ha
      · rename_i hw
        cases ha
        exact lv_dup hx hb hdec (cat1 hD hw) (hk _ _ _ hR hRc hL hl)
      · cases ha
    · cases ha
  case pop =>
    simp only [okI, Bool.and_eq_true, beq_iff_eq] at hok
    obtain ⟨⟨rfl, rfl⟩, rfl⟩ := hok
    simp only [acte] at ha
    split at ha
    · rename_i w r
      split at ha
      · rename_i hw
        cases ha
        exact lv_pop hx hb hdec (cat1 hD hw) (hk _ _ _ hR hRc hL hl)
      · cases ha
    · cases ha
  case dup_x1 =>
    simp only [okI, Bool.and_eq_true, beq_iff_eq] at hok
    obtain ⟨⟨rfl, rfl⟩, rfl⟩ := hok
    simp only [acte] at ha
    split at ha
    · rename_i w u r
      split at ha
      · rename_i hw
        cases ha
        exact lv_dup_x1 hx hb hdec (cat1 hD hw.1) (cat1 hD hw.2) (hk _ _ _ hR hRc hL hl)
      · cases ha
    · cases ha
  case dup2 =>
    simp only [okI, Bool.and_eq_true, beq_iff_eq] at hok
    obtain ⟨⟨rfl, rfl⟩, rfl⟩ := hok
    simp only [acte] at ha
    split at ha
    · rename_i w u r
      split at ha
      · rename_i hw
        cases ha
        exact lv_dup2_11 hx hb hdec (cat1 hD hw.1) (cat1 hD hw.2) (hk _ _ _ hR hRc hL hl)
      · cases ha
    · cases ha
  case ifnull o =>
    simp only [okI, Bool.and_eq_true, beq_iff_eq, decide_eq_true_eq] at hok
    obtain ⟨⟨⟨⟨rfl, rfl⟩, ht⟩, rfl⟩, rfl⟩ := hok
    simp only [acte] at ha
    split at ha
    · cases ha
      exact lv_ifnullN hx hb hdec ht (hk _ _ _ hR hRc hL hl)
    · cases ha
      exact lv_ifnull hx hb hdec (hk _ _ _ hR hRc hL hl)
    · cases ha
  case ifnonnull o =>
    simp only [okI, Bool.and_eq_true, beq_iff_eq, decide_eq_true_eq] at hok
    obtain ⟨⟨⟨⟨rfl, rfl⟩, ht⟩, rfl⟩, rfl⟩ := hok
    simp only [acte] at ha
    split at ha
    · cases ha
      exact lv_ifnonnullN hx hb hdec (hk _ _ _ hR hRc hL hl)
    · cases ha
      exact lv_ifnonnull hx hb hdec ht (hk _ _ _ hR hRc hL hl)
    · cases ha
  case tableswitch dflt lo hi offs =>
    simp only [okI, Bool.and_eq_true, beq_iff_eq, decide_eq_true_eq] at hok
    obtain ⟨⟨⟨⟨rfl, hdf⟩, hlo⟩, hhi⟩, hoffs⟩ := hok
    simp only [acte] at ha
    split at ha
    · rename_i z r
      split at ha
      · rename_i hin
        cases ha
        have hlen : offs.toList.length = ts.length := by
          have := congrArg List.length hoffs
          simpa using this
        have ho : offs[(z.toInt - lo).toNat]? = some (offs.toList[(z.toInt - lo).toNat]'(by rw [hlen, ← hlo]; exact hin.2)) := by
          rw [← Array.getElem?_toList, List.getElem?_eq_getElem]
        have h3 := congrArg (fun q : List Int => q[(z.toInt - lo).toNat]?) hoffs
        simp only [List.getElem?_map] at h3
        rw [Array.getElem?_toList, ho] at h3
        have hin2 : (z.toInt - lo).toNat < ts.length := by rw [← hlo]; exact hin.2
        rw [List.getElem?_eq_getElem hin2] at h3
        simp only [Option.map_some, Option.some.injEq] at h3
        refine lv_tableIn (tgt := ts.getD (z.toInt - v.toInt).toNat 0) hx hb hdec (by omega) (by omega) ho ?_ (hk _ _ _ hR hRc hL hl)
        rw [h3, hlo, List.getD_eq_getElem?_getD, List.getElem?_eq_getElem hin2]
        rfl
      · rename_i hin
        cases ha
        exact lv_tableOut hx hb hdec (by omega) hdf (hk _ _ _ hR hRc hL hl)
    · cases ha
  case getfield x =>
    simp only [okI, Bool.and_eq_true, beq_iff_eq] at hok
    obtain ⟨⟨⟨rfl, rfl⟩, rfl⟩, hel⟩ := hok
    simp only [acte] at ha
    split at ha
    · split at ha
      · rename_i ht
        cases ha
        exact g_getfield hB hBC hC (lF_ok _ (List.mem_of_elem_eq_true hel)) hR ht hdec (hk _ _ _ hR hRc hL hl)
      · cases ha
    · cases ha
  case putfield x =>
    simp only [okI, Bool.and_eq_true, beq_iff_eq, decide_eq_true_eq] at hok
    obtain ⟨⟨⟨⟨⟨⟨rfl, rfl⟩, rfl⟩, hel⟩, hla⟩, h21⟩, hfi⟩ := hok
    simp only [acte] at ha
    split at ha
    · split at ha
      · rename_i ht
        split at ha
        · rename_i G' hp
          cases ha
          have hm := List.mem_of_elem_eq_true hel
          refine g_putfield hB hBC hC (lF_ok _ hm) hm hla h21 (fun hf => ?_) hR ht hp hl hdec (fun H' locs' hR' hl' => ?_)
          · rw [hf] at hfi
            simp only [Bool.not_true, Bool.false_or, Bool.and_eq_true, beq_iff_eq] at hfi
            refine ⟨hfi.1, ?_⟩
            have h7 := List.all_eq_true.mp (fin_ok m (ft_lt he)) _ (ft_mem he)
            dsimp only at h7
            rw [hf] at h7
            simpa using h7
          · have e1 := pv_spec hp
            have h8 := hk H' locs' ls hR' (hRc.put (fun h52 => by rw [ht] at h52; rw [h52] at h21; exact absurd h21 (by decide)) (fun h56 => absurd h56 (by rw [ht]; exact oar_lo a (by omega))) hp) hL hl'
            dsimp only at h8
            rw [e1.2.2.1, e1.2.2.2.1] at h8
            exact h8
        · cases ha
      · cases ha
    · cases ha
  case iaload =>
    simp only [okI, Bool.and_eq_true, beq_iff_eq] at hok
    obtain ⟨⟨⟨rfl, rfl⟩, rfl⟩, rfl⟩ := hok
    simp only [acte] at ha
    split at ha
    · rename_i i xa r
      split at ha
      · rename_i hh
        obtain ⟨hld, hin⟩ := hh
        cases ha
        obtain ⟨cell, hcell, harr, hkn, hsz, hsl, hok⟩ := arrC hBA hC hR (ldok_asrt hld)
        simp only [ldok, Bool.or_eq_true, beq_iff_eq] at hld
        have hin1 : ¬ (i < 0 ∨ cell.slots.size ≤ i.toNatClampNeg) := by rw [hsz]; exact (inb_in hin).1
        have hv := hsl _ (inb_in hin).2
        have hty : aty (tg G xa) = .int := by rcases hld with q | q <;> rw [q] <;> rfl
        rw [hty] at harr
        exact W.iald hx hb hcell harr hkn hin1 hv rfl rfl hdec (hk _ _ _ hR hRc hL hl)
      · cases ha
    · cases ha
  case laload =>
    simp only [okI, Bool.and_eq_true, beq_iff_eq] at hok
    obtain ⟨⟨⟨rfl, rfl⟩, rfl⟩, rfl⟩ := hok
    simp only [acte] at ha
    split at ha
    · rename_i i xa r
      split at ha
      · rename_i hh
        obtain ⟨hld, hin⟩ := hh
        cases ha
        obtain ⟨cell, hcell, harr, hkn, hsz, hsl, hok⟩ := arrC hBA hC hR (ldok_asrt hld)
        simp only [ldok, Bool.or_eq_true, beq_iff_eq] at hld
        have hin1 : ¬ (i < 0 ∨ cell.slots.size ≤ i.toNatClampNeg) := by rw [hsz]; exact (inb_in hin).1
        have hv := hsl _ (inb_in hin).2
        have hty : aty (tg G xa) = .long := by rw [hld]; rfl
        rw [hty] at harr
        exact W.lald hx hb hcell harr hkn hin1 hv rfl rfl hdec (hk _ _ _ hR hRc hL hl)
      · cases ha
    · cases ha
  case daload =>
    simp only [okI, Bool.and_eq_true, beq_iff_eq] at hok
    obtain ⟨⟨⟨rfl, rfl⟩, rfl⟩, rfl⟩ := hok
    simp only [acte] at ha
    split at ha
    · rename_i i xa r
      split at ha
      · rename_i hh
        obtain ⟨hld, hin⟩ := hh
        cases ha
        obtain ⟨cell, hcell, harr, hkn, hsz, hsl, hok⟩ := arrC hBA hC hR (ldok_asrt hld)
        simp only [ldok, Bool.or_eq_true, beq_iff_eq] at hld
        have hin1 : ¬ (i < 0 ∨ cell.slots.size ≤ i.toNatClampNeg) := by rw [hsz]; exact (inb_in hin).1
        have hv := hsl _ (inb_in hin).2
        have hty : aty (tg G xa) = .double := by rw [hld]; rfl
        rw [hty] at harr
        exact W.dald hx hb hcell harr hkn hin1 hv rfl rfl hdec (hk _ _ _ hR hRc hL hl)
      · cases ha
    · cases ha
  case caload =>
    simp only [okI, Bool.and_eq_true, beq_iff_eq] at hok
    obtain ⟨⟨⟨rfl, rfl⟩, rfl⟩, rfl⟩ := hok
    simp only [acte] at ha
    split at ha
    · rename_i i xa r
      split at ha
      · rename_i hh
        obtain ⟨hld, hin⟩ := hh
        cases ha
        obtain ⟨cell, hcell, harr, hkn, hsz, hsl, hok⟩ := arrC hBA hC hR (ldok_asrt hld)
        simp only [ldok, Bool.or_eq_true, beq_iff_eq] at hld
        have hin1 : ¬ (i < 0 ∨ cell.slots.size ≤ i.toNatClampNeg) := by rw [hsz]; exact (inb_in hin).1
        have hv := hsl _ (inb_in hin).2
        have hty : aty (tg G xa) = .char := by rw [hld]; rfl
        rw [hty] at harr
        exact W.cald hx hb hcell harr hkn hin1 hv rfl rfl hdec (hk _ _ _ hR hRc hL hl)
      · cases ha
    · cases ha
  case baload =>
    simp only [okI, Bool.and_eq_true, beq_iff_eq] at hok
    obtain ⟨⟨⟨rfl, rfl⟩, rfl⟩, rfl⟩ := hok
    simp only [acte] at ha
    split at ha
    · rename_i i xa r
      split at ha
      · rename_i hh
        obtain ⟨hld, hin⟩ := hh
        cases ha
        obtain ⟨cell, hcell, harr, hkn, hsz, hsl, hok⟩ := arrC hBA hC hR (ldok_asrt hld)
        simp only [ldok, Bool.or_eq_true, beq_iff_eq] at hld
        have hin1 : ¬ (i < 0 ∨ cell.slots.size ≤ i.toNatClampNeg) := by rw [hsz]; exact (inb_in hin).1
        have hv := hsl _ (inb_in hin).2
        rcases hld with q | q
        · have hty : aty (tg G xa) = .boolean := by rw [q]; rfl
          rw [hty] at harr
          exact W.zald hx hb hcell harr hkn hin1 hv rfl rfl hdec (hk _ _ _ hR hRc hL hl)
        · have hty : aty (tg G xa) = .byte := by rw [q]; rfl
          rw [hty] at harr
          exact W.bald hx hb hcell harr hkn hin1 hv rfl rfl hdec (hk _ _ _ hR hRc hL hl)
      · cases ha
    · cases ha
  case aaload =>
    simp only [okI, Bool.and_eq_true, beq_iff_eq] at hok
    obtain ⟨⟨⟨rfl, rfl⟩, rfl⟩, rfl⟩ := hok
    simp only [acte] at ha
    split at ha
    · rename_i i xa r
      split at ha
      · rename_i hh
        obtain ⟨hld, hin⟩ := hh
        cases ha
        obtain ⟨cell, hcell, harr, hkn, hsz, hsl, hok⟩ := arrC hBA hC hR (ldok_asrt hld)
        simp only [ldok, Bool.or_eq_true, beq_iff_eq] at hld
        have hin1 : ¬ (i < 0 ∨ cell.slots.size ≤ i.toNatClampNeg) := by rw [hsz]; exact (inb_in hin).1
        have hv := hsl _ (inb_in hin).2
        have hty : (aty (tg G xa)).isReference = true := by rcases hld with (((q | q) | q) | q) | q <;> rw [q] <;> rfl
        exact W.aald hx hb hcell harr hty hkn hin1 hv rfl rfl hdec (hk _ _ _ hR hRc hL hl)
      · cases ha
    · cases ha
  case iastore =>
    simp only [okI, Bool.and_eq_true, beq_iff_eq] at hok
    obtain ⟨⟨⟨rfl, rfl⟩, rfl⟩, rfl⟩ := hok
    simp only [acte] at ha
    split at ha
    · rename_i w i xa r
      split at ha
      · rename_i hh
        obtain ⟨hst, hin⟩ := hh
        split at ha
        · rename_i G' hp
          cases ha
          simp only [stok, beq_iff_eq] at hst
          have h9 : ¬ asrt (tg G xa) = 9 := by rw [hst]; decide
          have hmut : cst (tg G xa) = false := by rw [hst]; rfl
          have hxa : 64 ≤ xa := hR.hi hmut
          obtain ⟨cell, hcell, harr, hkn, hsz, hsl, hok⟩ := arrC hBA hC hR h9
          have hin1 : ¬ (i < 0 ∨ cell.slots.size ≤ i.toNatClampNeg) := by rw [hsz]; exact (inb_in hin).1
          have hty : aty (tg G xa) = .int := by rw [hst]; rfl
          have hfit := fit_of (D := D) (ty := .int) hp (by rw [hst]; rfl)
          have e1 := pv_spec hp
          rw [hty] at harr
          have hkk : ∀ H' : Heap, H'[Wra D xa]? = some (cell.setSlot i.toNatClampNeg (Wtv D w)) → H'.size = H.size → (∀ q, q ≠ Wra D xa → H'[q]? = H[q]?) → W p l e R s mi args below meth c H' (locs ++ [⟨Wra D xa, i.toNatClampNeg⟩]) (nx G - n0) (us G - u0) Q (F0 mi (pc + 1) ls (r.map (Wtv D))) := by
            intro H' q1 q2 q3
            have h8 := hk H' _ ls (hR.putA h9 hmut hp hok (inb_in hin).2 q1 q2 q3) (hRc.put (fun h52 => by rw [h52]; rfl) (fun h56 => absurd h56 (by rw [hst]; decide)) hp) hL (locs_add (i := i.toNatClampNeg) hxa hl)
            dsimp only at h8
            rw [e1.2.2.1, e1.2.2.2.1] at h8
            exact h8
          have hp' := hp
          rw [hst] at hp'
          cases w <;> simp only [pv, asrt] at hp' <;> first | (cases hp'; done) | skip
          exact W.iast hx hb hcell harr hkn hin1 rfl rfl hdec hkk
        · cases ha
      · cases ha
    · cases ha
  case lastore =>
    simp only [okI, Bool.and_eq_true, beq_iff_eq] at hok
    obtain ⟨⟨⟨rfl, rfl⟩, rfl⟩, rfl⟩ := hok
    simp only [acte] at ha
    split at ha
    · rename_i w i xa r
      split at ha
      · rename_i hh
        obtain ⟨hst, hin⟩ := hh
        split at ha
        · rename_i G' hp
          cases ha
          simp only [stok, beq_iff_eq] at hst
          have h9 : ¬ asrt (tg G xa) = 9 := by rw [hst]; decide
          have hmut : cst (tg G xa) = false := by rw [hst]; rfl
          have hxa : 64 ≤ xa := hR.hi hmut
          obtain ⟨cell, hcell, harr, hkn, hsz, hsl, hok⟩ := arrC hBA hC hR h9
          have hin1 : ¬ (i < 0 ∨ cell.slots.size ≤ i.toNatClampNeg) := by rw [hsz]; exact (inb_in hin).1
          have hty : aty (tg G xa) = .long := by rw [hst]; rfl
          have hfit := fit_of (D := D) (ty := .long) hp (by rw [hst]; rfl)
          have e1 := pv_spec hp
          rw [hty] at harr
          have hkk : ∀ H' : Heap, H'[Wra D xa]? = some (cell.setSlot i.toNatClampNeg (Wtv D w)) → H'.size = H.size → (∀ q, q ≠ Wra D xa → H'[q]? = H[q]?) → W p l e R s mi args below meth c H' (locs ++ [⟨Wra D xa, i.toNatClampNeg⟩]) (nx G - n0) (us G - u0) Q (F0 mi (pc + 1) ls (r.map (Wtv D))) := by
            intro H' q1 q2 q3
            have h8 := hk H' _ ls (hR.putA h9 hmut hp hok (inb_in hin).2 q1 q2 q3) (hRc.put (fun h52 => by rw [h52]; rfl) (fun h56 => absurd h56 (by rw [hst]; decide)) hp) hL (locs_add (i := i.toNatClampNeg) hxa hl)
            dsimp only at h8
            rw [e1.2.2.1, e1.2.2.2.1] at h8
            exact h8
          have hp' := hp
          rw [hst] at hp'
          cases w <;> simp only [pv, asrt] at hp' <;> first | (cases hp'; done) | skip
          exact W.last hx hb hcell harr hkn hin1 rfl rfl hdec hkk
        · cases ha
      · cases ha
    · cases ha
  case dastore =>
    simp only [okI, Bool.and_eq_true, beq_iff_eq] at hok
    obtain ⟨⟨⟨rfl, rfl⟩, rfl⟩, rfl⟩ := hok
    simp only [acte] at ha
    split at ha
    · rename_i w i xa r
      split at ha
      · rename_i hh
        obtain ⟨hst, hin⟩ := hh
        split at ha
        · rename_i G' hp
          cases ha
          simp only [stok, beq_iff_eq] at hst
          have h9 : ¬ asrt (tg G xa) = 9 := by rw [hst]; decide
          have hmut : cst (tg G xa) = false := by rw [hst]; rfl
          have hxa : 64 ≤ xa := hR.hi hmut
          obtain ⟨cell, hcell, harr, hkn, hsz, hsl, hok⟩ := arrC hBA hC hR h9
          have hin1 : ¬ (i < 0 ∨ cell.slots.size ≤ i.toNatClampNeg) := by rw [hsz]; exact (inb_in hin).1
          have hty : aty (tg G xa) = .double := by rw [hst]; rfl
          have hfit := fit_of (D := D) (ty := .double) hp (by rw [hst]; rfl)
          have e1 := pv_spec hp
          rw [hty] at harr
          have hkk : ∀ H' : Heap, H'[Wra D xa]? = some (cell.setSlot i.toNatClampNeg (Wtv D w)) → H'.size = H.size → (∀ q, q ≠ Wra D xa → H'[q]? = H[q]?) → W p l e R s mi args below meth c H' (locs ++ [⟨Wra D xa, i.toNatClampNeg⟩]) (nx G - n0) (us G - u0) Q (F0 mi (pc + 1) ls (r.map (Wtv D))) := by
            intro H' q1 q2 q3
            have h8 := hk H' _ ls (hR.putA h9 hmut hp hok (inb_in hin).2 q1 q2 q3) (hRc.put (fun h52 => by rw [h52]; rfl) (fun h56 => absurd h56 (by rw [hst]; decide)) hp) hL (locs_add (i := i.toNatClampNeg) hxa hl)
            dsimp only at h8
            rw [e1.2.2.1, e1.2.2.2.1] at h8
            exact h8
          have hp' := hp
          rw [hst] at hp'
          cases w <;> simp only [pv, asrt] at hp' <;> first | (cases hp'; done) | skip
          exact W.dast hx hb hcell harr hkn hin1 rfl rfl hdec hkk
        · cases ha
      · cases ha
    · cases ha
  case bastore =>
    simp only [okI, Bool.and_eq_true, beq_iff_eq] at hok
    obtain ⟨⟨⟨rfl, rfl⟩, rfl⟩, rfl⟩ := hok
    simp only [acte] at ha
    split at ha
    · rename_i w i xa r
      split at ha
      · rename_i hh
        obtain ⟨hst, hin⟩ := hh
        split at ha
        · rename_i G' hp
          cases ha
          simp only [stok, beq_iff_eq] at hst
          have h9 : ¬ asrt (tg G xa) = 9 := by rw [hst]; decide
          have hmut : cst (tg G xa) = false := by rw [hst]; rfl
          have hxa : 64 ≤ xa := hR.hi hmut
          obtain ⟨cell, hcell, harr, hkn, hsz, hsl, hok⟩ := arrC hBA hC hR h9
          have hin1 : ¬ (i < 0 ∨ cell.slots.size ≤ i.toNatClampNeg) := by rw [hsz]; exact (inb_in hin).1
          have hty : aty (tg G xa) = .boolean := by rw [hst]; rfl
          have hfit := fit_of (D := D) (ty := .boolean) hp (by rw [hst]; rfl)
          have e1 := pv_spec hp
          rw [hty] at harr
          have hkk : ∀ H' : Heap, H'[Wra D xa]? = some (cell.setSlot i.toNatClampNeg (Wtv D w)) → H'.size = H.size → (∀ q, q ≠ Wra D xa → H'[q]? = H[q]?) → W p l e R s mi args below meth c H' (locs ++ [⟨Wra D xa, i.toNatClampNeg⟩]) (nx G - n0) (us G - u0) Q (F0 mi (pc + 1) ls (r.map (Wtv D))) := by
            intro H' q1 q2 q3
            have h8 := hk H' _ ls (hR.putA h9 hmut hp hok (inb_in hin).2 q1 q2 q3) (hRc.put (fun h52 => by rw [h52]; rfl) (fun h56 => absurd h56 (by rw [hst]; decide)) hp) hL (locs_add (i := i.toNatClampNeg) hxa hl)
            dsimp only at h8
            rw [e1.2.2.1, e1.2.2.2.1] at h8
            exact h8
          have hp' := hp
          rw [hst] at hp'
          cases w <;> simp only [pv, asrt] at hp' <;> first | (cases hp'; done) | skip
          refine W.zast hx hb hcell harr hkn hin1 rfl rfl hdec (fun H' q1 q2 q3 => hkk H' ?_ q2 q3)
          rw [q1]; exact congrArg (fun z => some (cell.setSlot _ z)) hfit.1
        · cases ha
      · cases ha
    · cases ha
  case castore =>
    simp only [okI, Bool.and_eq_true, beq_iff_eq] at hok
    obtain ⟨⟨⟨rfl, rfl⟩, rfl⟩, rfl⟩ := hok
    simp only [acte] at ha
    split at ha
    · rename_i w i xa r
      split at ha
      · rename_i hh
        obtain ⟨hst, hin⟩ := hh
        split at ha
        · rename_i G' hp
          cases ha
          simp only [stok, beq_iff_eq] at hst
          have h9 : ¬ asrt (tg G xa) = 9 := by rw [hst]; decide
          have hmut : cst (tg G xa) = false := by rw [hst]; rfl
          have hxa : 64 ≤ xa := hR.hi hmut
          obtain ⟨cell, hcell, harr, hkn, hsz, hsl, hok⟩ := arrC hBA hC hR h9
          have hin1 : ¬ (i < 0 ∨ cell.slots.size ≤ i.toNatClampNeg) := by rw [hsz]; exact (inb_in hin).1
          have hty : aty (tg G xa) = .char := by rw [hst]; rfl
          have hfit := fit_of (D := D) (ty := .char) hp (by rw [hst]; rfl)
          have e1 := pv_spec hp
          rw [hty] at harr
          have hkk : ∀ H' : Heap, H'[Wra D xa]? = some (cell.setSlot i.toNatClampNeg (Wtv D w)) → H'.size = H.size → (∀ q, q ≠ Wra D xa → H'[q]? = H[q]?) → W p l e R s mi args below meth c H' (locs ++ [⟨Wra D xa, i.toNatClampNeg⟩]) (nx G - n0) (us G - u0) Q (F0 mi (pc + 1) ls (r.map (Wtv D))) := by
            intro H' q1 q2 q3
            have h8 := hk H' _ ls (hR.putA h9 hmut hp hok (inb_in hin).2 q1 q2 q3) (hRc.put (fun h52 => by rw [h52]; rfl) (fun h56 => absurd h56 (by rw [hst]; decide)) hp) hL (locs_add (i := i.toNatClampNeg) hxa hl)
            dsimp only at h8
            rw [e1.2.2.1, e1.2.2.2.1] at h8
            exact h8
          have hp' := hp
          rw [hst] at hp'
          cases w <;> simp only [pv, asrt] at hp' <;> first | (cases hp'; done) | skip
          refine W.cast hx hb hcell harr hkn hin1 rfl rfl hdec (fun H' q1 q2 q3 => hkk H' ?_ q2 q3)
          rw [q1]; exact congrArg (fun z => some (cell.setSlot _ z)) hfit.1
        · cases ha
      · cases ha
    · cases ha
  case arraylength =>
    simp only [okI, Bool.and_eq_true, beq_iff_eq] at hok
    obtain ⟨⟨rfl, rfl⟩, rfl⟩ := hok
    simp only [acte] at ha
    split at ha
    · rename_i xa r
      split at ha
      · rename_i h9
        cases ha
        obtain ⟨cell, hcell, harr, hkn, hsz, hsl, hok⟩ := arrC hBA hC hR h9
        exact W.alen (n := Int32.ofNat (ln G xa)) hx hb hcell harr (by rw [hsz]) rfl rfl hdec (hk _ _ _ hR hRc hL hl)
      · cases ha
    · cases ha
  case new x =>
    simp only [okI, Bool.and_eq_true, Bool.or_eq_true, beq_iff_eq, decide_eq_true_eq] at hok
    obtain ⟨rfl, ⟨⟨⟨⟨⟨rfl, rfl⟩, h1⟩, h2⟩, rfl⟩, hel⟩ | ⟨⟨⟨rfl, h1⟩, h2⟩, hel⟩⟩ := hok
    · simp only [acte, jmp] at ha
      cases ha
      exact g_new hB hBC hC ⟨h1, h2⟩ (lC_ok _ (List.mem_of_elem_eq_true hel)) hR hn0 hrm hdec (fun H' hR' => hk H' locs ls hR' (hRc.alloc hR.nx0 (by omega)) hL hl)
    · simp only [acte] at ha
      split at ha <;> cases ha
  case newarray t =>
    simp only [okI, Bool.and_eq_true, beq_iff_eq, decide_eq_true_eq] at hok
    obtain ⟨⟨⟨⟨⟨rfl, rfl⟩, rfl⟩, h50⟩, h55⟩, hty⟩ := hok
    simp only [acte] at ha
    split at ha
    · rename_i i r
      split at ha
      · rename_i hin
        cases ha
        have h9 : ¬ asrt a = 9 := by
          have hz : ∀ a, a < 56 → 50 ≤ a → ¬ asrt a = 9 := by decide
          exact hz a (by omega) h50
        have hin2 := inb_in hin
        have hw : (Cond.arrayClass (newarray.typeOf t)).before args s = true := by
          rw [hty]
          refine hC.wd hB ?_ rfl
          have h56 : a < 56 := by omega
          exact arrw a h50 h56
        refine W.newa hx hb hw rfl hdec rfl (fun q => hin2.1 (Or.inl q)) ?_ (by have := hrm.1; dsimp only at this; rw [al_nx] at this; omega) (by have := hrm.2; dsimp only at this; rw [al_us] at this; omega) (fun cA kA comp h1 h2 h3 => ?_)
        · have hcb : componentBytes (newarray.typeOf t) ≤ 8 := by cases t <;> decide
          have := hin2.2
          have h3 : i.toNatClampNeg * componentBytes (newarray.typeOf t) ≤ 100000 * 8 := Nat.mul_le_mul (by omega) hcb
          omega
        · rw [hty] at h1
          have hcA : cA = WdC D a := by
            have h4 := (hBA.1 a h50 (by omega)).1
            rw [← hW.alike.findClass] at h4
            exact Option.some.inj (h1.symm.trans h4)
          have h8 := hk _ locs ls (g_newarr (N := i.toNatClampNeg) hR h9 hcA rfl) (hRc.alloc hR.nx0 (by omega)) hL hl
          dsimp only at h8
          rw [al_nx, al_us] at h8
          have e1 : nx G - n0 + 1 = nx G + 1 - n0 := by omega
          have e2 : us G - u0 + i.toNatClampNeg = us G + i.toNatClampNeg - u0 := by omega
          rw [e1, e2]
          have hdv : defaultValue (newarray.typeOf t) = Wtv D (zv (asrt a)) := by
            rw [hty]
            have h56 : a < 56 := by omega
            have h : a = 50 ∨ a = 51 ∨ a = 52 ∨ a = 53 ∨ a = 54 ∨ a = 55 := by omega
            rcases h with rfl | rfl | rfl | rfl | rfl | rfl <;> rfl
          rw [hdv]
          have hsz : Wtv D (.ref (nx G)) = .ref H.size := by
            show Value.ref (Wra D (nx G)) = _
            rw [Wra_hi hR.1, hR.2.1]
          rw [← hsz]
          exact h8
      · cases ha
    · cases ha
  case anewarray x =>
    simp only [okI, Bool.and_eq_true, Bool.or_eq_true, beq_iff_eq] at hok
    obtain ⟨⟨⟨rfl, rfl⟩, rfl⟩, hel⟩ := hok
    simp only [acte] at ha
    split at ha
    · rename_i i r
      split at ha
      · rename_i hin
        cases ha
        have hin2 := inb_in hin
        obtain ⟨C, hty, hcl, hov, h56⟩ : ∃ C, aty a = .object C ∧ CLw (mOw m, x, C) ∧ Cond.arrayOver (.object C) ∈ lw_tbl ∧ 56 ≤ a ∧ a ≤ 59 := by
          rcases hel with ((⟨rfl, q⟩ | ⟨rfl, q⟩) | ⟨rfl, q⟩) | ⟨rfl, q⟩
          · exact ⟨_, rfl, lC_ok _ (List.mem_of_elem_eq_true q), aov0, by decide, by decide⟩
          · exact ⟨_, rfl, lC_ok _ (List.mem_of_elem_eq_true q), aov1, by decide, by decide⟩
          · exact ⟨_, rfl, lC_ok _ (List.mem_of_elem_eq_true q), aov2, by decide, by decide⟩
          · exact ⟨_, rfl, lC_ok _ (List.mem_of_elem_eq_true q), aov3, by decide, by decide⟩
        have h3' : asrt a = 3 := by
          have hz : ∀ a, a < 60 → 56 ≤ a → asrt a = 3 := by decide
          exact hz a (by omega) h56.1
        have h9 : ¬ asrt a = 9 := by rw [h3']; decide
        refine W.anew hx hb hown (hC.wd hB hcl rfl) (hC.wd hB hov rfl) rfl hdec rfl (fun q => hin2.1 (Or.inl q)) (by have := hin2.2; omega) (by have := hrm.1; dsimp only at this; rw [al_nx] at this; omega) (by have := hrm.2; dsimp only at this; rw [al_us] at this; omega) (fun cA kA comp h1 h2 h3 h4 => ?_)
        rw [← hty] at h1
        have hcA : cA = WdC D a := by
          have h4 := (hBA.1 a (by omega) (by omega)).1
          rw [← hW.alike.findClass] at h4
          exact Option.some.inj (h1.symm.trans h4)
        have h8 := hk _ locs ls (g_newarr (N := i.toNatClampNeg) hR h9 hcA rfl) (hRc.alloc hR.nx0 (by omega)) hL hl
        dsimp only at h8
        rw [al_nx, al_us, h3'] at h8
        have e1 : nx G - n0 + 1 = nx G + 1 - n0 := by omega
        have e2 : us G - u0 + i.toNatClampNeg = us G + i.toNatClampNeg - u0 := by omega
        rw [e1, e2]
        have hsz : Wtv D (.ref (nx G)) = .ref H.size := by
          show Value.ref (Wra D (nx G)) = _
          rw [Wra_hi hR.1, hR.2.1]
        rw [← hsz]
        exact h8
      · cases ha
    · cases ha
  case ldc2_w x =>
    simp only [okI, Bool.and_eq_true, Bool.or_eq_true, beq_iff_eq] at hok
    obtain ⟨⟨rfl, rfl⟩, ⟨rfl, hel⟩ | ⟨rfl, hel⟩⟩ := hok
    · simp only [acte, jmp] at ha
      cases ha
      exact lv_ldc2 hx hb hown (hC.wd hB (lKL_ok _ (List.mem_of_elem_eq_true hel)) rfl) hdec (hk _ _ _ hR hRc hL hl)
    · simp only [acte, jmp] at ha
      cases ha
      exact lv_ldc2d hx hb hown (hC.wd hB (lKD_ok _ (List.mem_of_elem_eq_true hel)) rfl) hdec (hk _ _ _ hR hRc hL hl)
  case ldc x =>
    simp only [okI, Bool.and_eq_true, Bool.or_eq_true, beq_iff_eq] at hok
    obtain ⟨⟨rfl, rfl⟩, (⟨rfl, hel⟩ | ⟨rfl, hel⟩) | ⟨⟨⟨rfl, rfl⟩, ho⟩, rfl⟩⟩ := hok
    · simp only [acte, jmp] at ha
      cases ha
      exact lv_ldc hx hb hown (hC.wd hB (lKI_ok _ (List.mem_of_elem_eq_true hel)) rfl) hdec (hk _ _ _ hR hRc hL hl)
    · simp only [acte, jmp] at ha
      cases ha
      rw [List.any_eq_true] at hel
      obtain ⟨q, hq, hqq⟩ := hel
      simp only [Bool.and_eq_true, beq_iff_eq] at hqq
      obtain ⟨⟨hq1, hq2⟩, hq3⟩ := hqq
      have hr := vk_R.warm hW (hBK q hq)
      rw [hq1, hq2, hq3] at hr
      have hlt : a < 64 := lKS_lt q hq a hq3
      have h8 := hk H locs ls hR hRc hL hl
      refine va_ldcS hx hb hown hr hdec ?_
      have e1 : Wtv D (.ref a) = .ref (Wkr D a) := congrArg Value.ref (Wra_lo hlt)
      rw [← e1]
      exact h8
    · simp only [acte, jmp] at ha
      cases ha
      have h8 := hk H locs ls hR hRc hL hl
      refine va_ldcM hx hb hown (C := "[Ljava/lang/Object;") (hC.wd hB (by rw [ho]; exact clw110) rfl) (va_Mi.moved hW.alike hBM) hdec ?_
      have e1 : Wtv D (.ref 14) = .ref (Wkr D 14) := congrArg Value.ref (Wra_lo (by decide))
      rw [← e1]
      exact h8
  case ldc_w x =>
    simp only [okI, Bool.and_eq_true, Bool.or_eq_true, beq_iff_eq] at hok
    obtain ⟨⟨rfl, rfl⟩, ⟨rfl, hel⟩ | ⟨rfl, hel⟩⟩ := hok
    · simp only [acte, jmp] at ha
      cases ha
      exact lv_ldcw hx hb hown (hC.wd hB (lKI_ok _ (List.mem_of_elem_eq_true hel)) rfl) hdec (hk _ _ _ hR hRc hL hl)
    · simp only [acte, jmp] at ha
      cases ha
      rw [List.any_eq_true] at hel
      obtain ⟨q, hq, hqq⟩ := hel
      simp only [Bool.and_eq_true, beq_iff_eq] at hqq
      obtain ⟨⟨hq1, hq2⟩, hq3⟩ := hqq
      have hr := vk_R.warm hW (hBK q hq)
      rw [hq1, hq2, hq3] at hr
      have hlt : a < 64 := lKS_lt q hq a hq3
      have h8 := hk H locs ls hR hRc hL hl
      have e1 : Wtv D (.ref a) = .ref (Wkr D a) := congrArg Value.ref (Wra_lo hlt)
      refine g_ldcwS hx hb hown hr hdec ?_
      rw [← e1]
      exact h8
  case getstatic x =>
    simp only [okI, Bool.and_eq_true, Bool.or_eq_true, beq_iff_eq] at hok
    obtain ⟨⟨rfl, rfl⟩, (⟨rfl, hel⟩ | ⟨⟨rfl, rfl⟩, hel⟩) | ⟨rfl, hel⟩⟩ := hok
    all_goals
      rw [List.any_eq_true] at hel
      obtain ⟨q, hq, hqq⟩ := hel
      simp only [Bool.and_eq_true, beq_iff_eq, decide_eq_true_eq] at hqq
      simp only [acte, jmp] at ha
      cases ha
      have h8 := hk H locs ls hR hRc hL hl
      have hlw := lS_ok q hq
      have hz := (va_Z.moved hW.alike (hBS q hq)).kept (H1 := H) (fun a ha1 ha2 => by
        rw [hR.2.2.2.1 a (by omega)])
    · obtain ⟨⟨⟨hq1, hq2⟩, hq3⟩, hlt⟩ := hqq
      rw [hq3, if_neg (by omega), if_neg (by omega)] at hz
      refine g_gets hx hb hz hown (by have := hC.wd (args := args) hB hlw rfl; rw [hq1, hq2] at this; exact this) hdec ?_
      have e1 : Wtv D (.ref a) = .ref (Wkr D a) := congrArg Value.ref (Wra_lo hlt)
      rw [← e1]
      exact h8
    · obtain ⟨⟨hq1, hq2⟩, hq3⟩ := hqq
      rw [hq3, if_pos rfl] at hz
      refine g_gets hx hb hz hown (by have := hC.wd (args := args) hB hlw rfl; rw [hq1, hq2] at this; exact this) hdec ?_
      exact h8
    · obtain ⟨⟨hq1, hq2⟩, hq3⟩ := hqq
      rw [hq3, if_neg (by decide), if_pos rfl] at hz
      refine g_gets hx hb hz hown (by have := hC.wd (args := args) hB hlw rfl; rw [hq1, hq2] at this; exact this) hdec ?_
      exact h8
  case if_acmp k o =>
    simp only [okI, Bool.and_eq_true, beq_iff_eq, decide_eq_true_eq] at hok
    obtain ⟨⟨⟨⟨rfl, hb'⟩, ht⟩, rfl⟩, rfl⟩ := hok
    simp only [acte] at ha
    split at ha
    · rename_i yy xx r
      split at ha
      · rename_i hok
        have hiff := ac_iff hBI hok
        cases k
        · simp only at hb'
          subst hb'
          refine lv_acmp_eq (rx := some (Wra D xx)) (ry := some (Wra D yy)) hx hb hdec ht (fun hc => ?_) (fun hc => ?_)
          · rw [if_pos (by rw [if_pos rfl]; exact hiff.mp (Option.some.inj hc))] at ha
            cases ha
            exact (hk _ _ _ hR hRc hL hl)
          · rw [if_neg (by rw [if_pos rfl]; intro q; exact hc (congrArg some (hiff.mpr q)))] at ha
            cases ha
            exact (hk _ _ _ hR hRc hL hl)
        · simp only at hb'
          subst hb'
          refine lv_acmp_ne (rx := some (Wra D xx)) (ry := some (Wra D yy)) hx hb hdec ht (fun hc => ?_) (fun hc => ?_)
          · rw [if_pos (by rw [if_neg (by decide)]; intro q; exact hc (congrArg some (hiff.mpr q)))] at ha
            cases ha
            exact (hk _ _ _ hR hRc hL hl)
          · rw [if_neg (by rw [if_neg (by decide)]; intro q; exact q (hiff.mp (Option.some.inj hc)))] at ha
            cases ha
            exact (hk _ _ _ hR hRc hL hl)
      · cases ha
    · cases ha
  case aastore =>
    simp only [okI, Bool.and_eq_true, beq_iff_eq] at hok
    obtain ⟨⟨⟨rfl, rfl⟩, rfl⟩, rfl⟩ := hok
    simp only [acte] at ha
    split at ha
    · rename_i w i xa r
      split at ha
      · rename_i hh
        obtain ⟨hst, hin⟩ := hh
        split at ha
        · rename_i G' hp
          cases ha
          have h56 : 56 ≤ tg G xa ∧ tg G xa ≤ 59 := by
            simp only [stok, Bool.or_eq_true, Bool.and_eq_true, beq_iff_eq, decide_eq_true_eq] at hst
            omega
          have h3 : asrt (tg G xa) = 3 := (by have hz : ∀ a, a < 60 → 56 ≤ a → asrt a = 3 := by decide
                                              exact hz _ (by omega) h56.1)
          have h9 : ¬ asrt (tg G xa) = 9 := by rw [h3]; decide
          have hmut : cst (tg G xa) = false := (by have hz : ∀ a, a < 60 → 56 ≤ a → cst a = false := by decide
                                                   exact hz _ (by omega) h56.1)
          have href : (aty (tg G xa)).isReference = true := (by have hz : ∀ a, a < 60 → 56 ≤ a → (aty a).isReference = true := by decide
                                                                exact hz _ (by omega) h56.1)
          have hxa : 64 ≤ xa := hR.hi hmut
          obtain ⟨cell, hcell, harr, hkn, hsz, hsl, hok⟩ := arrC hBA hC hR h9
          obtain ⟨k, comp, hk1, hkind, hcomp⟩ := hC.ac hBA h9
          have hcls : s.vm.classes[cell.cls]? = some k := by rw [hok.2.2.2.1]; exact hk1
          have hin1 : ¬ i < 0 ∧ i.toNatClampNeg < cell.slots.size := ⟨fun q => (inb_in hin).1 (Or.inl q), by rw [hsz]; exact (inb_in hin).2⟩
          have e1 := pv_spec hp
          have hrc' : RepC G' := hRc.put (fun h52 => by rw [h52] at h56; exact absurd h56.1 (by decide)) (fun h6 => ⟨h3, fun x hx => by
            have h6 : tg G xa = 56 := by
              unfold oar at h6
              simp only [Bool.or_eq_true, beq_iff_eq] at h6
              omega
            subst hx
            have hst2 : stok 3 (tg G xa) (tg G x) = true := hst
            rw [h6] at hst2
            exact stok56 hst2 (hRc.2.2.1 x)⟩) hp
          have hkk : ∀ H' : Heap, H'[Wra D xa]? = some (cell.setSlot i.toNatClampNeg (Wtv D w)) → H'.size = H.size → (∀ q, q ≠ Wra D xa → H'[q]? = H[q]?) → W p l e R s mi args below meth c H' (locs ++ [⟨Wra D xa, i.toNatClampNeg⟩]) (nx G - n0) (us G - u0) Q (F0 mi (pc + 1) ls (r.map (Wtv D))) := by
            intro H' q1 q2 q3
            have h8 := hk H' _ ls (hR.putA h9 hmut hp hok (inb_in hin).2 q1 q2 q3) hrc' hL (locs_add (i := i.toNatClampNeg) hxa hl)
            dsimp only at h8
            rw [e1.2.2.1, e1.2.2.2.1] at h8
            exact h8
          have hp' := hp
          rw [h3] at hp'
          cases w <;> simp only [pv] at hp' <;> first | (cases hp'; done) | skip
          · exact W.aastN hx hb hcell harr.1 hkn hcls hkind href hin1 hdec hkk
          · rename_i vv
            obtain ⟨ht1, hasg⟩ := g_asg (p := p) (e := e) (mi := mi) (meth := meth) (c := c) hB hC hRc hst hcomp
            obtain ⟨cv, hcv, hvst, hvcls, hvf⟩ := clsAt hBC hBA hC hR (x := vv) (Or.inl ht1)
            obtain ⟨kv, hkv, -⟩ := Vm.findClass_spec hvf
            obtain ⟨kc, hkc⟩ := g_comp hcomp h56
            exact W.aast hx hb hcell harr.1 hkn hcls hkind href hkc hin1 hcv (fun q hq => by rw [hq] at hvst; cases hvst) hkv (hasg _ hvf) rfl rfl hdec hkk
        · cases ha
      · cases ha
    · cases ha
  case checkcast x =>
    simp only [okI, Bool.and_eq_true, Bool.or_eq_true, beq_iff_eq, decide_eq_true_eq] at hok
    obtain ⟨⟨⟨⟨rfl, rfl⟩, rfl⟩, hel⟩, haa⟩ := hok
    simp only [acte] at ha
    split at ha
    · cases ha
      exact lv_castN hx hb hdec (hk _ _ _ hR hRc hL hl)
    · rename_i xa r
      split at ha
      · rename_i hof
        cases ha
        obtain ⟨cell, hcell, hvst, ct, hct, hasg⟩ := g_isof hB hBC hBA hC hR hof haa
        exact g_cast hx hb hown (hC.wd hB (lC_ok _ (List.mem_of_elem_eq_true hel)) rfl) hcell hvst hct hasg hdec (hk _ _ _ hR hRc hL hl)
      · cases ha
    · cases ha
  case instanceof x =>
    simp only [okI, Bool.and_eq_true, Bool.or_eq_true, beq_iff_eq] at hok
    obtain ⟨⟨⟨⟨rfl, rfl⟩, rfl⟩, hel⟩, haa⟩ := hok
    simp only [acte] at ha
    split at ha
    · cases ha
      exact lv_instN hx hb hdec (hk _ _ _ hR hRc hL hl)
    · rename_i xa r
      split at ha
      · rename_i h19
        obtain ⟨cell, hcell, hvst, hcc, hcf⟩ := clsAt hBC hBA hC hR (x := xa) (Or.inl (by omega))
        have hne : ¬ a = 39 := by omega
        by_cases hua : tg G xa = a
        · have hof : isof (tg G xa) a = true := by unfold isof; rw [if_neg hne, hua]; simp
          rw [if_pos hof] at ha
          cases ha
          rw [hua] at hcf
          exact va_instE hx hb hown (hC.wd hB (lC_ok _ (List.mem_of_elem_eq_true hel)) rfl) ⟨cell, hcell, hvst, hcf⟩ hdec (hk _ _ _ hR hRc hL hl)
        · have hof : ¬ isof (tg G xa) a = true := by unfold isof; rw [if_neg hne]; simpa using hua
          rw [if_neg hof] at ha
          cases ha
          exact va_instNo hx hb hown (hC.wd hB (lC_ok _ (List.mem_of_elem_eq_true hel)) rfl) (va_Nc.moved hW.alike (hBN.1 _ h19.1 h19.2 a haa hua)) ⟨cell, hcell, hvst, hcf⟩ hdec (hk _ _ _ hR hRc hL hl)
      · cases ha
    · cases ha
  case multianewarray x k =>
    simp only [okI, Bool.and_eq_true, beq_iff_eq] at hok
    obtain ⟨⟨⟨⟨⟨rfl, rfl⟩, rfl⟩, rfl⟩, ho⟩, rfl⟩ := hok
    simp only [acte] at ha
    split at ha
    · split at ha
      · rename_i hh
        obtain ⟨rfl, rfl⟩ := hh
        cases ha
        exact g_multi hB hBA hC hR hRc hL hl ho hn0 hrm hdec hk
      · cases ha
    · cases ha
  case invokevirtual x =>
    simp only [okI, Bool.and_eq_true, Bool.or_eq_true, beq_iff_eq, decide_eq_true_eq] at hok
    obtain ⟨⟨rfl, rfl⟩, ⟨⟨⟨⟨⟨rfl, hel⟩, hpar⟩, hc1⟩, hc2⟩, hlt⟩ | ⟨⟨rfl, ho⟩, rfl⟩⟩ := hok
    · simp only [acte] at ha
      split at ha
      · cases ha
      · split at ha <;> cases ha
    · simp only [acte] at ha
      split at ha
      · rename_i d' xa r
        split at ha
        · rename_i hh
          cases ha
          obtain ⟨cell, hcell, hvst, hcc, hcf⟩ := clsAt hBC hBA hC hR (x := xa) (Or.inr hh.2)
          rw [hh.2] at hcf
          have h8 := hk H locs ls hR hRc hL hl
          have e1 : Wtv D (.ref 14) = .ref (Wkr D 14) := congrArg Value.ref (Wra_lo (by decide))
          have hcs := catsum (D := D) hD r
          refine va_getC hx hb (by rw [hml, hL.1]) hown (hC.wd hB (by rw [ho]; exact gcw0) rfl) (hC.wd hB gcw1 rfl) (hC.wd hB gcw2 rfl) (hC.wd hB gcw3 rfl) (hC.wd hB gcw4 rfl) (va_Mi.moved hW.alike hBM) ⟨cell, hcell, hvst, hcf⟩ (by omega) (by omega) hdec ?_
          rw [← e1]
          exact h8
        · cases ha
      · cases ha
  case invokespecial x =>
    simp only [okI, Bool.and_eq_true, Bool.or_eq_true, beq_iff_eq, decide_eq_true_eq] at hok
    obtain ⟨⟨rfl, rfl⟩, ⟨⟨⟨⟨rfl, rfl⟩, hel⟩, hpar⟩, hlt⟩ | ⟨rfl, hel⟩⟩ := hok
    · simp only [acte] at ha
      split at ha
      · cases ha
      · split at ha <;> cases ha
    · simp only [acte] at ha
      split at ha
      · rename_i d' xa r
        split at ha
        · rename_i hh
          cases ha
          have hcs := catsum (D := D) hD r
          exact W.objInit hx hb hown (hC.wd hB (oiw _ (List.mem_of_elem_eq_true hel)) rfl) (hC.wd hB oiw1 rfl) (hC.wd hB oiw2 rfl) rfl (by rw [hml]; exact hL.1) rfl hdec (by omega) (by show 2 * 0 + _ + 12 ≤ _; omega) (hk _ _ _ hR hRc hL hl)
        · cases ha
      · cases ha
  case invokestatic x =>
    simp only [okI, Bool.and_eq_true, Bool.or_eq_true, beq_iff_eq, decide_eq_true_eq] at hok
    obtain ⟨⟨rfl, rfl⟩, (⟨⟨⟨⟨rfl, rfl⟩, hel⟩, hpar⟩, hlt⟩ | ⟨rfl, hel⟩) | ⟨rfl, hel⟩⟩ := hok
    · simp only [acte] at ha
      split at ha
      · cases ha
      · split at ha <;> cases ha
    · have hlk : Cond.methodLink (cNm (mOw m)) x arraycopyName ∈ lw_tbl := by
        rcases hel with ⟨q1, q2⟩ | ⟨q1, q2⟩
        · rw [q1, q2]; exact acL0
        · rw [q1, q2]; exact acL1
      simp only [acte] at ha
      split at ha
      · rename_i d' k j yy i xx r
        split at ha
        · rename_i hh
          cases ha
          exact g_copy hB hBC hBA hC hR hRc hL hl hd hlk hdec hh hk
        · cases ha
      · cases ha
    · simp only [acte] at ha
      split at ha
      · rename_i d' yy xx r
        split at ha
        · rename_i hh
          cases ha
          have hcs := catsum (D := D) hD r
          have h8 := hk H locs ls hR hRc hL hl
          rcases hel with (⟨⟨q1, q2⟩, q3⟩ | ⟨⟨q1, q2⟩, q3⟩) | ⟨⟨q1, q2⟩, q3⟩
          · subst q3
            exact va_mmin hx hb (by rw [hml, hL.1]) hown (hC.wd hB (by rw [q1, q2]; exact mminL0) rfl) (hC.wd hB mminS rfl) (hC.wd hB (lw_all_tbl cj35) rfl) (hC.wd hB mminC rfl) (by omega) (by omega) hrm.1 hrm.2 hdec h8
          · subst q3
            exact va_mmax hx hb (by rw [hml, hL.1]) hown (hC.wd hB (by rw [q1, q2]; exact mmaxL0) rfl) (hC.wd hB mmaxS rfl) (hC.wd hB (lw_all_tbl cj35) rfl) (hC.wd hB mmaxC rfl) (by omega) (by omega) hrm.1 hrm.2 hdec h8
          · subst q3
            exact va_mmax hx hb (by rw [hml, hL.1]) hown (hC.wd hB (by rw [q1, q2]; exact mmaxL1) rfl) (hC.wd hB mmaxS rfl) (hC.wd hB (lw_all_tbl cj35) rfl) (hC.wd hB mmaxC rfl) (by omega) (by omega) hrm.1 hrm.2 hdec h8
        · cases ha
      · cases ha
  case invokeinterface x k =>
    simp only [okI, Bool.and_eq_true, beq_iff_eq] at hok
    obtain ⟨⟨⟨⟨rfl, rfl⟩, rfl⟩, rfl⟩, hel⟩ := hok
    simp only [acte] at ha
    split at ha
    · split at ha <;> cases ha
    · cases ha
  case ireturn =>
    simp only [okI, Bool.and_eq_true, beq_iff_eq] at hok
    have h46 : op = 46 := by first | exact hok.1.1.1 | exact hok.1.1 | exact hok.1
    subst h46
    simp only [acte] at ha
    split at ha
    · split at ha <;> cases ha
    · cases ha
  case lreturn =>
    simp only [okI, Bool.and_eq_true, beq_iff_eq] at hok
    have h46 : op = 46 := by first | exact hok.1.1.1 | exact hok.1.1 | exact hok.1
    subst h46
    simp only [acte] at ha
    split at ha
    · split at ha <;> cases ha
    · cases ha
  case dreturn =>
    simp only [okI, Bool.and_eq_true, beq_iff_eq] at hok
    have h46 : op = 46 := by first | exact hok.1.1.1 | exact hok.1.1 | exact hok.1
    subst h46
    simp only [acte] at ha
    split at ha
    · split at ha <;> cases ha
    · cases ha
  case areturn =>
    simp only [okI, Bool.and_eq_true, beq_iff_eq] at hok
    have h46 : op = 46 := by first | exact hok.1.1.1 | exact hok.1.1 | exact hok.1
    subst h46
    simp only [acte] at ha
    split at ha
    · split at ha <;> cases ha
    · cases ha
  case return_ =>
    simp only [okI, Bool.and_eq_true, beq_iff_eq] at hok
    have h47 : op = 47 := hok.1.1
    subst h47
    simp only [acte] at ha
    split at ha <;> cases ha
  all_goals exact absurd hok (by simp [okI])
end step

