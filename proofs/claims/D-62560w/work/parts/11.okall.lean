set_option maxRecDepth 100000
def okP (m : Nat) : Prop := (mTs.getD m []).all (okE m) = true
theorem okj0 : ∀ k, k < 16 → 16 * 0 + k < mNum → okP (16 * 0 + k)
  | 0, _, _ => ok0
  | 1, _, _ => ok1
  | 2, _, _ => ok2
  | 3, _, _ => ok3
  | 4, _, _ => ok4
  | 5, _, _ => ok5
  | 6, _, _ => ok6
  | 7, _, _ => ok7
  | 8, _, _ => ok8
  | 9, _, _ => ok9
  | 10, _, _ => ok10
  | 11, _, _ => ok11
  | 12, _, _ => ok12
  | 13, _, _ => ok13
  | 14, _, _ => ok14
  | 15, _, _ => ok15
  | k + 16, h, _ => absurd h (by omega)
theorem okj1 : ∀ k, k < 16 → 16 * 1 + k < mNum → okP (16 * 1 + k)
  | 0, _, _ => ok16
  | 1, _, _ => ok17
  | 2, _, _ => ok18
  | 3, _, _ => ok19
  | 4, _, _ => ok20
  | 5, _, _ => ok21
  | 6, _, _ => ok22
  | 7, _, _ => ok23
  | 8, _, _ => ok24
  | 9, _, _ => ok25
  | 10, _, _ => ok26
  | 11, _, _ => ok27
  | 12, _, _ => ok28
  | 13, _, _ => ok29
  | 14, _, _ => ok30
  | 15, _, _ => ok31
  | k + 16, h, _ => absurd h (by omega)
theorem okj2 : ∀ k, k < 16 → 16 * 2 + k < mNum → okP (16 * 2 + k)
  | 0, _, _ => ok32
  | 1, _, _ => ok33
  | 2, _, _ => ok34
  | 3, _, _ => ok35
  | 4, _, _ => ok36
  | 5, _, _ => ok37
  | 6, _, _ => ok38
  | 7, _, _ => ok39
  | 8, _, _ => ok40
  | 9, _, _ => ok41
  | 10, _, _ => ok42
  | 11, _, _ => ok43
  | 12, _, _ => ok44
  | 13, _, _ => ok45
  | 14, _, _ => ok46
  | 15, _, _ => ok47
  | k + 16, h, _ => absurd h (by omega)
theorem okj3 : ∀ k, k < 16 → 16 * 3 + k < mNum → okP (16 * 3 + k)
  | 0, _, _ => ok48
  | 1, _, _ => ok49
  | 2, _, _ => ok50
  | 3, _, _ => ok51
  | 4, _, _ => ok52
  | 5, _, _ => ok53
  | 6, _, _ => ok54
  | 7, _, _ => ok55
  | 8, _, _ => ok56
  | 9, _, _ => ok57
  | 10, _, _ => ok58
  | 11, _, _ => ok59
  | 12, _, _ => ok60
  | 13, _, _ => ok61
  | 14, _, _ => ok62
  | 15, _, _ => ok63
  | k + 16, h, _ => absurd h (by omega)
theorem okj4 : ∀ k, k < 16 → 16 * 4 + k < mNum → okP (16 * 4 + k)
  | 0, _, _ => ok64
  | 1, _, _ => ok65
  | 2, _, _ => ok66
  | 3, _, _ => ok67
  | 4, _, _ => ok68
  | 5, _, _ => ok69
  | 6, _, _ => ok70
  | 7, _, _ => ok71
  | 8, _, _ => ok72
  | 9, _, _ => ok73
  | 10, _, _ => ok74
  | 11, _, _ => ok75
  | 12, _, _ => ok76
  | 13, _, _ => ok77
  | 14, _, _ => ok78
  | 15, _, _ => ok79
  | k + 16, h, _ => absurd h (by omega)
theorem okj5 : ∀ k, k < 16 → 16 * 5 + k < mNum → okP (16 * 5 + k)
  | 0, _, _ => ok80
  | 1, _, _ => ok81
  | 2, _, _ => ok82
  | 3, _, _ => ok83
  | 4, _, _ => ok84
  | 5, _, _ => ok85
  | 6, _, _ => ok86
  | 7, _, _ => ok87
  | 8, _, _ => ok88
  | 9, _, _ => ok89
  | 10, _, _ => ok90
  | 11, _, _ => ok91
  | 12, _, _ => ok92
  | 13, _, _ => ok93
  | 14, _, _ => ok94
  | 15, _, _ => ok95
  | k + 16, h, _ => absurd h (by omega)
theorem okj6 : ∀ k, k < 16 → 16 * 6 + k < mNum → okP (16 * 6 + k)
  | 0, _, _ => ok96
  | 1, _, _ => ok97
  | 2, _, _ => ok98
  | 3, _, _ => ok99
  | 4, _, _ => ok100
  | 5, _, _ => ok101
  | 6, _, _ => ok102
  | 7, _, _ => ok103
  | 8, _, _ => ok104
  | 9, _, _ => ok105
  | 10, _, _ => ok106
  | 11, _, _ => ok107
  | 12, _, _ => ok108
  | 13, _, _ => ok109
  | 14, _, _ => ok110
  | 15, _, _ => ok111
  | k + 16, h, _ => absurd h (by omega)
theorem okj7 : ∀ k, k < 16 → 16 * 7 + k < mNum → okP (16 * 7 + k)
  | 0, _, _ => ok112
  | 1, _, _ => ok113
  | 2, _, _ => ok114
  | 3, _, _ => ok115
  | 4, _, _ => ok116
  | 5, _, _ => ok117
  | 6, _, _ => ok118
  | 7, _, _ => ok119
  | 8, _, _ => ok120
  | 9, _, _ => ok121
  | 10, _, _ => ok122
  | 11, _, _ => ok123
  | 12, _, _ => ok124
  | 13, _, _ => ok125
  | 14, _, _ => ok126
  | 15, _, _ => ok127
  | k + 16, h, _ => absurd h (by omega)
theorem okj8 : ∀ k, k < 16 → 16 * 8 + k < mNum → okP (16 * 8 + k)
  | 0, _, _ => ok128
  | 1, _, _ => ok129
  | 2, _, _ => ok130
  | 3, _, _ => ok131
  | 4, _, _ => ok132
  | 5, _, _ => ok133
  | 6, _, _ => ok134
  | 7, _, _ => ok135
  | 8, _, _ => ok136
  | 9, _, _ => ok137
  | 10, _, _ => ok138
  | 11, _, _ => ok139
  | 12, _, _ => ok140
  | 13, _, _ => ok141
  | 14, _, _ => ok142
  | 15, _, _ => ok143
  | k + 16, h, _ => absurd h (by omega)
theorem okj9 : ∀ k, k < 16 → 16 * 9 + k < mNum → okP (16 * 9 + k)
  | 0, _, _ => ok144
  | 1, _, _ => ok145
  | 2, _, _ => ok146
  | 3, _, _ => ok147
  | 4, _, _ => ok148
  | 5, _, _ => ok149
  | 6, _, _ => ok150
  | 7, _, _ => ok151
  | 8, _, _ => ok152
  | 9, _, _ => ok153
  | 10, _, _ => ok154
  | 11, _, _ => ok155
  | 12, _, _ => ok156
  | 13, _, _ => ok157
  | 14, _, _ => ok158
  | 15, _, _ => ok159
  | k + 16, h, _ => absurd h (by omega)
theorem okj10 : ∀ k, k < 16 → 16 * 10 + k < mNum → okP (16 * 10 + k)
  | 0, _, _ => ok160
  | 1, _, _ => ok161
  | 2, _, _ => ok162
  | 3, _, _ => ok163
  | 4, _, _ => ok164
  | 5, _, _ => ok165
  | 6, _, _ => ok166
  | 7, _, _ => ok167
  | 8, _, _ => ok168
  | 9, _, _ => ok169
  | 10, _, _ => ok170
  | 11, _, _ => ok171
  | 12, _, _ => ok172
  | 13, _, _ => ok173
  | 14, _, _ => ok174
  | 15, _, _ => ok175
  | k + 16, h, _ => absurd h (by omega)
theorem okj11 : ∀ k, k < 16 → 16 * 11 + k < mNum → okP (16 * 11 + k)
  | 0, _, _ => ok176
  | 1, _, _ => ok177
  | 2, _, _ => ok178
  | 3, _, _ => ok179
  | 4, _, _ => ok180
  | 5, _, _ => ok181
  | 6, _, _ => ok182
  | 7, _, _ => ok183
  | 8, _, _ => ok184
  | 9, _, _ => ok185
  | 10, _, _ => ok186
  | 11, _, _ => ok187
  | 12, _, _ => ok188
  | 13, _, _ => ok189
  | 14, _, _ => ok190
  | 15, _, _ => ok191
  | k + 16, h, _ => absurd h (by omega)
theorem okj12 : ∀ k, k < 16 → 16 * 12 + k < mNum → okP (16 * 12 + k)
  | 0, _, _ => ok192
  | 1, _, _ => ok193
  | 2, _, _ => ok194
  | 3, _, _ => ok195
  | 4, _, _ => ok196
  | 5, _, _ => ok197
  | 6, _, _ => ok198
  | 7, _, _ => ok199
  | 8, _, _ => ok200
  | 9, _, _ => ok201
  | 10, _, _ => ok202
  | 11, _, _ => ok203
  | 12, _, _ => ok204
  | 13, _, _ => ok205
  | 14, _, _ => ok206
  | 15, _, _ => ok207
  | k + 16, h, _ => absurd h (by omega)
theorem okj13 : ∀ k, k < 16 → 16 * 13 + k < mNum → okP (16 * 13 + k)
  | 0, _, _ => ok208
  | 1, _, _ => ok209
  | 2, _, _ => ok210
  | 3, _, _ => ok211
  | 4, _, _ => ok212
  | 5, _, _ => ok213
  | 6, _, _ => ok214
  | 7, _, _ => ok215
  | 8, _, _ => ok216
  | 9, _, _ => ok217
  | 10, _, _ => ok218
  | 11, _, _ => ok219
  | 12, _, _ => ok220
  | 13, _, _ => ok221
  | 14, _, _ => ok222
  | 15, _, _ => ok223
  | k + 16, h, _ => absurd h (by omega)
theorem okj14 : ∀ k, k < 16 → 16 * 14 + k < mNum → okP (16 * 14 + k)
  | 0, _, _ => ok224
  | 1, _, _ => ok225
  | 2, _, _ => ok226
  | 3, _, _ => ok227
  | 4, _, _ => ok228
  | 5, _, _ => ok229
  | 6, _, _ => ok230
  | 7, _, _ => ok231
  | 8, _, _ => ok232
  | 9, _, _ => ok233
  | 10, _, _ => ok234
  | 11, _, _ => ok235
  | 12, _, _ => ok236
  | 13, _, _ => ok237
  | 14, _, _ => ok238
  | 15, _, _ => ok239
  | k + 16, h, _ => absurd h (by omega)
theorem okj15 : ∀ k, k < 16 → 16 * 15 + k < mNum → okP (16 * 15 + k)
  | 0, _, _ => ok240
  | 1, _, _ => ok241
  | 2, _, _ => ok242
  | 3, _, _ => ok243
  | 4, _, _ => ok244
  | 5, _, _ => ok245
  | 6, _, _ => ok246
  | 7, _, _ => ok247
  | 8, _, _ => ok248
  | 9, _, _ => ok249
  | 10, _, _ => ok250
  | 11, _, _ => ok251
  | 12, _, _ => ok252
  | 13, _, _ => ok253
  | 14, _, _ => ok254
  | 15, _, h => absurd h (by decide)
  | k + 16, h, _ => absurd h (by omega)
theorem okAll : ∀ m, m < mNum → okP m := by
  intro m hm
  have e : 16 * (m / 16) + m % 16 = m := by omega
  have h1 : m % 16 < 16 := by omega
  have h2 : m / 16 < 16 := by have : m < 255 := hm; omega
  rw [← e] at hm ⊢
  generalize m / 16 = j at h2 hm
  generalize m % 16 = k at h1 hm
  match j, h2 with
  | 0, _ => exact okj0 k h1 hm
  | 1, _ => exact okj1 k h1 hm
  | 2, _ => exact okj2 k h1 hm
  | 3, _ => exact okj3 k h1 hm
  | 4, _ => exact okj4 k h1 hm
  | 5, _ => exact okj5 k h1 hm
  | 6, _ => exact okj6 k h1 hm
  | 7, _ => exact okj7 k h1 hm
  | 8, _ => exact okj8 k h1 hm
  | 9, _ => exact okj9 k h1 hm
  | 10, _ => exact okj10 k h1 hm
  | 11, _ => exact okj11 k h1 hm
  | 12, _ => exact okj12 k h1 hm
  | 13, _ => exact okj13 k h1 hm
  | 14, _ => exact okj14 k h1 hm
  | 15, _ => exact okj15 k h1 hm
  | j + 16, h => exact absurd h (by omega)
theorem ft_mem {m pc : Nat} {e : mE} (h : ft m pc = some e) : (pc, e) ∈ mTs.getD m [] := by
  unfold ft at h
  generalize mTs.getD m [] = l at h
  induction l with
  | nil => cases h
  | cons q t ih =>
    rw [List.foldr_cons] at h
    split at h
    · rename_i hq
      cases h
      exact List.mem_cons.mpr (Or.inl (by rw [← hq]))
    · exact List.mem_cons_of_mem _ (ih h)
theorem ft_lt {m pc : Nat} {e : mE} (h : ft m pc = some e) : m < mNum := by
  rcases Nat.lt_or_ge m mNum with q | q
  · exact q
  · exfalso
    have hm := ft_mem h
    have : mTs.getD m [] = [] := by
      rw [List.getD_eq_getElem?_getD, List.getElem?_eq_none (show mTs.length ≤ m from q)]; rfl
    rw [this] at hm; cases hm
/-- an entry and its instruction -/
theorem ft_ok {m pc : Nat} {e : mE} (h : ft m pc = some e) (h0 : ¬ e.1 = 0) : ∃ i len, decode (mCod m) pc = .ok (i, len) ∧ okI (mOw m) (mRt m) pc i len e.1 e.2.1 e.2.2.1 e.2.2.2.1 e.2.2.2.2.1 e.2.2.2.2.2.1 e.2.2.2.2.2.2 = true := by
  have h1 : okE m (pc, e) = true := List.all_eq_true.mp (okAll m (ft_lt h)) _ (ft_mem h)
  unfold okE at h1
  dsimp only at h1
  split at h1
  · rename_i i len hd
    refine ⟨i, len, hd, ?_⟩
    rw [Bool.or_eq_true] at h1
    rcases h1 with q | q
    · exact absurd (by simpa using q) h0
    · exact q
  · exact absurd (by simpa using h1) h0
