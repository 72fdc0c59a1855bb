set_option maxRecDepth 100000
def nodeRun : MethodName := ⟨"PhraseDesk$Node", "run", "(LPhraseDesk;LPhraseDesk$Value;)V"⟩
theorem nrL : ∀ q ∈ lIf, Cond.methodLink (cNm q.1) q.2 nodeRun ∈ lw_tbl := List.forall_mem_cons.mpr ⟨lw_at lw_m6 23 rfl, List.forall_mem_cons.mpr ⟨lw_at lw_m6 50 rfl, List.forall_mem_cons.mpr ⟨lw_at lw_m5 236 rfl, List.forall_mem_cons.mpr ⟨lw_at lw_m6 94 rfl, List.forall_mem_cons.mpr ⟨lw_at lw_m6 7 rfl, List.forall_mem_cons.mpr ⟨lw_at lw_m6 31 rfl, List.forall_mem_cons.mpr ⟨lw_at lw_m6 15 rfl, List.forall_mem_cons.mpr ⟨lw_at lw_m6 71 rfl, List.forall_mem_cons.mpr ⟨lw_at lw_m6 79 rfl, fun _ h => absurd h List.not_mem_nil⟩⟩⟩⟩⟩⟩⟩⟩⟩
theorem nrD : Cond.declares nodeRun ∈ lw_tbl := lw_at lw_m5 238 rfl
theorem nrI : Cond.interfaceMethod nodeRun.cls nodeRun.cls nodeRun.name nodeRun.desc ∈ lw_tbl := lw_at lw_m5 237 rfl
theorem nrU : ∀ u, 9 ≤ u → u ≤ 19 → disp u < mNum ∧ mPars.getD (disp u) 0 = 2 ∧ Cond.selects (cNm u) nodeRun (mY (disp u)) ∈ lw_tbl ∧ Cond.instanceMethod (mY (disp u)) ∈ lw_tbl ∧ Cond.publicMethod (mY (disp u)) ∈ lw_tbl ∧ Cond.unhidden (cNm u) nodeRun.name nodeRun.desc ∈ lw_tbl := by
  intro u h1 h2
  have h : u = 9 ∨ u = 10 ∨ u = 11 ∨ u = 12 ∨ u = 13 ∨ u = 14 ∨ u = 15 ∨ u = 16 ∨ u = 17 ∨ u = 18 ∨ u = 19 := by omega
  rcases h with rfl | rfl | rfl | rfl | rfl | rfl | rfl | rfl | rfl | rfl | rfl
  · exact ⟨by decide +kernel, by decide +kernel, lw_at lw_m6 33 rfl, lw_at lw_m6 35 rfl, lw_at lw_m6 36 rfl, lw_at lw_m6 34 rfl⟩
  · exact ⟨by decide +kernel, by decide +kernel, lw_at lw_m6 52 rfl, lw_at lw_m6 54 rfl, lw_at lw_m6 55 rfl, lw_at lw_m6 53 rfl⟩
  · exact ⟨by decide +kernel, by decide +kernel, lw_at lw_m6 81 rfl, lw_at lw_m6 83 rfl, lw_at lw_m6 84 rfl, lw_at lw_m6 82 rfl⟩
  · exact ⟨by decide +kernel, by decide +kernel, lw_at lw_m6 73 rfl, lw_at lw_m6 75 rfl, lw_at lw_m6 76 rfl, lw_at lw_m6 74 rfl⟩
  · exact ⟨by decide +kernel, by decide +kernel, lw_at lw_m6 9 rfl, lw_at lw_m6 11 rfl, lw_at lw_m6 12 rfl, lw_at lw_m6 10 rfl⟩
  · exact ⟨by decide +kernel, by decide +kernel, lw_at lw_m6 88 rfl, lw_at lw_m6 90 rfl, lw_at lw_m6 91 rfl, lw_at lw_m6 89 rfl⟩
  · exact ⟨by decide +kernel, by decide +kernel, lw_at lw_m6 65 rfl, lw_at lw_m6 67 rfl, lw_at lw_m6 68 rfl, lw_at lw_m6 66 rfl⟩
  · exact ⟨by decide +kernel, by decide +kernel, lw_at lw_m6 44 rfl, lw_at lw_m6 46 rfl, lw_at lw_m6 47 rfl, lw_at lw_m6 45 rfl⟩
  · exact ⟨by decide +kernel, by decide +kernel, lw_at lw_m6 17 rfl, lw_at lw_m6 19 rfl, lw_at lw_m6 20 rfl, lw_at lw_m6 18 rfl⟩
  · exact ⟨by decide +kernel, by decide +kernel, lw_at lw_m6 25 rfl, lw_at lw_m6 27 rfl, lw_at lw_m6 28 rfl, lw_at lw_m6 26 rfl⟩
  · exact ⟨by decide +kernel, by decide +kernel, lw_at lw_m6 0 rfl, lw_at lw_m6 2 rfl, lw_at lw_m6 3 rfl, lw_at lw_m6 1 rfl⟩
def opOrd : MethodName := ⟨"PhraseDesk$Op", "ordinal", "()I"⟩
theorem orL : Cond.methodLink (cNm 1) 220 opOrd ∈ lw_tbl := lw_at lw_m6 126 rfl
theorem orS : Cond.sameMethod opOrd.cls "java/lang/Enum" opOrd.name opOrd.desc ∈ lw_tbl := lw_at lw_m6 127 rfl
theorem orSel : Cond.selects (cNm 25) opOrd (mY 25) ∈ lw_tbl := lw_at lw_m6 129 rfl
theorem orI : Cond.instanceMethod (mY 25) ∈ lw_tbl := lw_at lw_m6 130 rfl
theorem mwc0 : ∀ k, k < 40 → ¬ 0 + k = lawM → mWd (0 + k) ∈ lw_tbl := fun k hk hl => match k, hk, hl with
  | 0, _, _ => mw0
  | 1, _, _ => mw1
  | 2, _, _ => mw2
  | 3, _, _ => mw3
  | 4, _, _ => mw4
  | 5, _, _ => mw5
  | 6, _, _ => mw6
  | 7, _, _ => mw7
  | 8, _, _ => mw8
  | 9, _, _ => mw9
  | 10, _, _ => mw10
  | 11, _, _ => mw11
  | 12, _, _ => mw12
  | 13, _, _ => mw13
  | 14, _, _ => mw14
  | 15, _, _ => mw15
  | 16, _, _ => mw16
  | 17, _, _ => mw17
  | 18, _, _ => mw18
  | 19, _, _ => mw19
  | 20, _, _ => mw20
  | 21, _, _ => mw21
  | 22, _, _ => mw22
  | 23, _, _ => mw23
  | 24, _, _ => mw24
  | 25, _, _ => mw25
  | 26, _, _ => mw26
  | 27, _, _ => mw27
  | 28, _, _ => mw28
  | 29, _, _ => mw29
  | 30, _, _ => mw30
  | 31, _, _ => mw31
  | 32, _, _ => mw32
  | 33, _, _ => mw33
  | 34, _, _ => mw34
  | 35, _, _ => mw35
  | 36, _, _ => mw36
  | 37, _, _ => mw37
  | 38, _, _ => mw38
  | 39, _, _ => mw39
  | k + 40, h, _ => absurd h (by omega)
theorem mwc1 : ∀ k, k < 40 → ¬ 40 + k = lawM → mWd (40 + k) ∈ lw_tbl := fun k hk hl => match k, hk, hl with
  | 0, _, _ => mw40
  | 1, _, _ => mw41
  | 2, _, _ => mw42
  | 3, _, _ => mw43
  | 4, _, _ => mw44
  | 5, _, _ => mw45
  | 6, _, _ => mw46
  | 7, _, _ => mw47
  | 8, _, _ => mw48
  | 9, _, _ => mw49
  | 10, _, _ => mw50
  | 11, _, _ => mw51
  | 12, _, _ => mw52
  | 13, _, _ => mw53
  | 14, _, _ => mw54
  | 15, _, _ => mw55
  | 16, _, _ => mw56
  | 17, _, _ => mw57
  | 18, _, _ => mw58
  | 19, _, _ => mw59
  | 20, _, _ => mw60
  | 21, _, _ => mw61
  | 22, _, _ => mw62
  | 23, _, _ => mw63
  | 24, _, _ => mw64
  | 25, _, _ => mw65
  | 26, _, _ => mw66
  | 27, _, _ => mw67
  | 28, _, _ => mw68
  | 29, _, _ => mw69
  | 30, _, _ => mw70
  | 31, _, _ => mw71
  | 32, _, _ => mw72
  | 33, _, _ => mw73
  | 34, _, _ => mw74
  | 35, _, _ => mw75
  | 36, _, _ => mw76
  | 37, _, _ => mw77
  | 38, _, _ => mw78
  | 39, _, _ => mw79
  | k + 40, h, _ => absurd h (by omega)
theorem mwc2 : ∀ k, k < 40 → ¬ 80 + k = lawM → mWd (80 + k) ∈ lw_tbl := fun k hk hl => match k, hk, hl with
  | 0, _, _ => mw80
  | 1, _, _ => mw81
  | 2, _, _ => mw82
  | 3, _, _ => mw83
  | 4, _, _ => mw84
  | 5, _, _ => mw85
  | 6, _, _ => mw86
  | 7, _, _ => mw87
  | 8, _, _ => mw88
  | 9, _, _ => mw89
  | 10, _, _ => mw90
  | 11, _, _ => mw91
  | 12, _, _ => mw92
  | 13, _, _ => mw93
  | 14, _, _ => mw94
  | 15, _, _ => mw95
  | 16, _, _ => mw96
  | 17, _, _ => mw97
  | 18, _, _ => mw98
  | 19, _, _ => mw99
  | 20, _, _ => mw100
  | 21, _, _ => mw101
  | 22, _, _ => mw102
  | 23, _, _ => mw103
  | 24, _, _ => mw104
  | 25, _, _ => mw105
  | 26, _, _ => mw106
  | 27, _, _ => mw107
  | 28, _, _ => mw108
  | 29, _, _ => mw109
  | 30, _, _ => mw110
  | 31, _, _ => mw111
  | 32, _, _ => mw112
  | 33, _, _ => mw113
  | 34, _, _ => mw114
  | 35, _, _ => mw115
  | 36, _, _ => mw116
  | 37, _, _ => mw117
  | 38, _, _ => mw118
  | 39, _, _ => mw119
  | k + 40, h, _ => absurd h (by omega)
theorem mwc3 : ∀ k, k < 40 → ¬ 120 + k = lawM → mWd (120 + k) ∈ lw_tbl := fun k hk hl => match k, hk, hl with
  | 0, _, _ => mw120
  | 1, _, _ => mw121
  | 2, _, _ => mw122
  | 3, _, _ => mw123
  | 4, _, _ => mw124
  | 5, _, _ => mw125
  | 6, _, _ => mw126
  | 7, _, _ => mw127
  | 8, _, _ => mw128
  | 9, _, _ => mw129
  | 10, _, _ => mw130
  | 11, _, _ => mw131
  | 12, _, _ => mw132
  | 13, _, _ => mw133
  | 14, _, _ => mw134
  | 15, _, _ => mw135
  | 16, _, _ => mw136
  | 17, _, _ => mw137
  | 18, _, _ => mw138
  | 19, _, _ => mw139
  | 20, _, _ => mw140
  | 21, _, _ => mw141
  | 22, _, _ => mw142
  | 23, _, _ => mw143
  | 24, _, _ => mw144
  | 25, _, _ => mw145
  | 26, _, _ => mw146
  | 27, _, _ => mw147
  | 28, _, _ => mw148
  | 29, _, _ => mw149
  | 30, _, _ => mw150
  | 31, _, _ => mw151
  | 32, _, _ => mw152
  | 33, _, _ => mw153
  | 34, _, _ => mw154
  | 35, _, _ => mw155
  | 36, _, _ => mw156
  | 37, _, _ => mw157
  | 38, _, _ => mw158
  | 39, _, _ => mw159
  | k + 40, h, _ => absurd h (by omega)
theorem mwc4 : ∀ k, k < 40 → ¬ 160 + k = lawM → mWd (160 + k) ∈ lw_tbl := fun k hk hl => match k, hk, hl with
  | 0, _, _ => mw160
  | 1, _, _ => mw161
  | 2, _, _ => mw162
  | 3, _, _ => mw163
  | 4, _, _ => mw164
  | 5, _, _ => mw165
  | 6, _, _ => mw166
  | 7, _, _ => mw167
  | 8, _, _ => mw168
  | 9, _, _ => mw169
  | 10, _, _ => mw170
  | 11, _, _ => mw171
  | 12, _, _ => mw172
  | 13, _, _ => mw173
  | 14, _, _ => mw174
  | 15, _, _ => mw175
  | 16, _, _ => mw176
  | 17, _, _ => mw177
  | 18, _, _ => mw178
  | 19, _, _ => mw179
  | 20, _, _ => mw180
  | 21, _, _ => mw181
  | 22, _, _ => mw182
  | 23, _, _ => mw183
  | 24, _, _ => mw184
  | 25, _, _ => mw185
  | 26, _, _ => mw186
  | 27, _, _ => mw187
  | 28, _, _ => mw188
  | 29, _, _ => mw189
  | 30, _, _ => mw190
  | 31, _, _ => mw191
  | 32, _, _ => mw192
  | 33, _, _ => mw193
  | 34, _, _ => mw194
  | 35, _, _ => mw195
  | 36, _, _ => mw196
  | 37, _, _ => mw197
  | 38, _, _ => mw198
  | 39, _, _ => mw199
  | k + 40, h, _ => absurd h (by omega)
theorem mwc5 : ∀ k, k < 40 → ¬ 200 + k = lawM → mWd (200 + k) ∈ lw_tbl := fun k hk hl => match k, hk, hl with
  | 0, _, _ => mw200
  | 1, _, _ => mw201
  | 2, _, _ => mw202
  | 3, _, _ => mw203
  | 4, _, _ => mw204
  | 5, _, _ => mw205
  | 6, _, _ => mw206
  | 7, _, _ => mw207
  | 8, _, _ => mw208
  | 9, _, _ => mw209
  | 10, _, _ => mw210
  | 11, _, _ => mw211
  | 12, _, _ => mw212
  | 13, _, _ => mw213
  | 14, _, _ => mw214
  | 15, _, _ => mw215
  | 16, _, _ => mw216
  | 17, _, _ => mw217
  | 18, _, _ => mw218
  | 19, _, _ => mw219
  | 20, _, _ => mw220
  | 21, _, _ => mw221
  | 22, _, _ => mw222
  | 23, _, _ => mw223
  | 24, _, _ => mw224
  | 25, _, _ => mw225
  | 26, _, _ => mw226
  | 27, _, _ => mw227
  | 28, _, _ => mw228
  | 29, _, _ => mw229
  | 30, _, _ => mw230
  | 31, _, _ => mw231
  | 32, _, _ => mw232
  | 33, _, _ => mw233
  | 34, _, _ => mw234
  | 35, _, _ => mw235
  | 36, _, _ => mw236
  | 37, _, _ => mw237
  | 38, _, _ => mw238
  | 39, _, _ => mw239
  | k + 40, h, _ => absurd h (by omega)
theorem mwc6 : ∀ k, k < 15 → ¬ 240 + k = lawM → mWd (240 + k) ∈ lw_tbl := fun k hk hl => match k, hk, hl with
  | 0, _, _ => mw240
  | 1, _, _ => mw241
  | 2, _, _ => mw242
  | 3, _, _ => mw243
  | 4, _, h => absurd rfl h
  | 5, _, _ => mw245
  | 6, _, _ => mw246
  | 7, _, _ => mw247
  | 8, _, _ => mw248
  | 9, _, _ => mw249
  | 10, _, _ => mw250
  | 11, _, _ => mw251
  | 12, _, _ => mw252
  | 13, _, _ => mw253
  | 14, _, _ => mw254
  | k + 15, h, _ => absurd h (by omega)
theorem mw_all : ∀ m, m < mNum → ¬ m = lawM → mWd m ∈ lw_tbl := by
  intro m hm hl
  have hm : m < 255 := hm
  by_cases h0 : m < 40
  · have e : m = 0 + (m - 0) := by omega
    rw [e] at hl ⊢
    exact mwc0 (m - 0) (by omega) hl
  by_cases h1 : m < 80
  · have e : m = 40 + (m - 40) := by omega
    rw [e] at hl ⊢
    exact mwc1 (m - 40) (by omega) hl
  by_cases h2 : m < 120
  · have e : m = 80 + (m - 80) := by omega
    rw [e] at hl ⊢
    exact mwc2 (m - 80) (by omega) hl
  by_cases h3 : m < 160
  · have e : m = 120 + (m - 120) := by omega
    rw [e] at hl ⊢
    exact mwc3 (m - 120) (by omega) hl
  by_cases h4 : m < 200
  · have e : m = 160 + (m - 160) := by omega
    rw [e] at hl ⊢
    exact mwc4 (m - 160) (by omega) hl
  by_cases h5 : m < 240
  · have e : m = 200 + (m - 200) := by omega
    rw [e] at hl ⊢
    exact mwc5 (m - 200) (by omega) hl
  by_cases h6 : m < 255
  · have e : m = 240 + (m - 240) := by omega
    rw [e] at hl ⊢
    exact mwc6 (m - 240) (by omega) hl
  omega
theorem raw_init : ∀ m, m < mNum → (mY m).name = "<init>" → mRaw m = [] := by decide +kernel
theorem mWin : ∀ m, m < mNum → m ≠ lawM → mWd m ∈ lw_tbl := by
  intro m hm hl
  exact mw_all m hm hl
section inv
variable {p : Program} {l : Launch} {e : Env} {R : Room} {s : State} {mi : MethodId} {args : Array Value} {below : List Frame} {meth : Method} {c : Code} {T : State} {locs : List Loc} {cells slots : Nat}
/-- an invocation is on its way -/
def Inv (p : Program) (l : Launch) (e : Env) (R : Room) (s : State) (mi : MethodId) (args : Array Value) (below : List Frame) (meth : Method) (c : Code) (T : State) (locs : List Loc) (cells slots : Nat) (g : JFrame) (rest : List Value) (mid : Nat) (as : Array Value) : Prop :=
  ∃ mk vm₁, Stand p l e R s mi args below meth c (T.setVm vm₁) locs cells slots ∧ (T.setVm vm₁).methodNamed? (mY mid) = some mk ∧ ∀ target, Steps p.tables e below (doInvoke e ((T.setVm vm₁).setTop { g with stack := rest }) [] mk as).1 target → Steps p.tables e below (T.setTop g) target
theorem mlen {mid : Nat} {methM : Method} {as : List Value} (hm : mid < mNum) (hsig : parseMethodDescriptor (mY mid).desc = some methM.sig) (hl : as.length = mPars.getD mid 0) : as.length = methM.sig.parameters.length := by
  have h := mPar_ok mid hm
  unfold mPar at h
  rw [hsig] at h
  rw [hl]
  exact (Option.some.inj h).symm
theorem inv_virt (X : Stand p l e R s mi args below meth c T locs cells slots) (hexec : p.tables.exec = Jvm.exec) {own C : String} {index mid : Nat} (hm : mid < mNum) (hown : s.vm.findClass own = some mi.cls)
    (hlink : (Cond.methodLink own index (mY mid)).before args s = true) (hinst : (Cond.instanceMethod (mY mid)).before args s = true) (hsel : (Cond.selects C (mY mid) (mY mid)).before args s = true) (hcode : (mWd mid).before args s = true)
    {b : Addr} {cellB : Cell} (hcell : T.heap[b]? = some cellB) (hobj : cellB.vm.isStatics = false) (hcls : s.vm.findClass C = some cellB.cls)
    {g : JFrame} (hg : g.method = mi) {as rest : List Value} (hlen : as.length = mPars.getD mid 0) (hstack : g.stack = as.reverse ++ .ref b :: rest) (hdg : decode c.code g.pc = .ok (.invokevirtual index, 3)) :
    Inv p l e R s mi args below meth c T locs cells slots g rest mid (Value.ref b :: as).toArray := by
  obtain ⟨mk, methM, hnamed, hmethM, hstM, habM⟩ := Cond.instanceMethod_spec hinst
  obtain ⟨mk', methM', cM, hn', hf⟩ := mWd_spec hcode
  cases hnamed.symm.trans hn'
  cases hmethM.symm.trans hf.1
  obtain ⟨c2, r2, m2, q1, q2, q3, q4, kP, hkP, hkPi⟩ := Cond.selects_spec hsel
  have hy := (mPl mid hm).2.1
  cases hcls.symm.trans q1
  cases (State.methodFound?_of_named hnamed hy).symm.trans q2
  cases hnamed.symm.trans q3
  have hselP : selectMethod e.platform s.vm cellB.cls mk = .method mk := by rw [Launch.admits_selectMethod X.admits]; exact q4
  obtain ⟨vm₁, X₁, hstep₁⟩ := X.invokevirtual hexec hown hlink hnamed hmethM hstM hkP hkPi hy (a := b) (cell := cellB) hcell
    (fun z h => by rw [h] at hobj; cases hobj) hselP hmethM habM hkP hkPi (g := g) hg (argsL := as) (rest := rest) (mlen hm hf.2.2.2.2.2.2.2 hlen) hstack hdg
  exact ⟨mk, vm₁, X₁, X₁.named hnamed, fun target h => hstep₁ _ fun acts => by rw [doInvoke_state]; exact h⟩
theorem inv_virtN (X : Stand p l e R s mi args below meth c T locs cells slots) (hexec : p.tables.exec = Jvm.exec) {own C host : String} {index mid : Nat} (hm : mid < mNum) (hown : s.vm.findClass own = some mi.cls)
    (hlink : (Cond.methodLinkNest own index (mY mid) host).before args s = true) (hinst : (Cond.instanceMethod (mY mid)).before args s = true) (hsel : (Cond.selects C (mY mid) (mY mid)).before args s = true) (hcode : (mWd mid).before args s = true)
    {b : Addr} {cellB : Cell} (hcell : T.heap[b]? = some cellB) (hobj : cellB.vm.isStatics = false) (hcls : s.vm.findClass C = some cellB.cls)
    {g : JFrame} (hg : g.method = mi) {as rest : List Value} (hlen : as.length = mPars.getD mid 0) (hstack : g.stack = as.reverse ++ .ref b :: rest) (hdg : decode c.code g.pc = .ok (.invokevirtual index, 3)) :
    Inv p l e R s mi args below meth c T locs cells slots g rest mid (Value.ref b :: as).toArray := by
  obtain ⟨mk, methM, hnamed, hmethM, hstM, habM⟩ := Cond.instanceMethod_spec hinst
  obtain ⟨mk', methM', cM, hn', hf⟩ := mWd_spec hcode
  cases hnamed.symm.trans hn'
  cases hmethM.symm.trans hf.1
  obtain ⟨c2, r2, m2, q1, q2, q3, q4, kP, hkP, hkPi⟩ := Cond.selects_spec hsel
  have hy := (mPl mid hm).2.1
  cases hcls.symm.trans q1
  cases (State.methodFound?_of_named hnamed hy).symm.trans q2
  cases hnamed.symm.trans q3
  have hselP : selectMethod e.platform s.vm cellB.cls mk = .method mk := by rw [Launch.admits_selectMethod X.admits]; exact q4
  obtain ⟨vm₁, X₁, hstep₁⟩ := X.invokevirtualNest hexec hown hlink hnamed hmethM hstM hkP hkPi hy (a := b) (cell := cellB) hcell
    (fun z h => by rw [h] at hobj; cases hobj) hselP hmethM habM hkP hkPi (g := g) hg (argsL := as) (rest := rest) (mlen hm hf.2.2.2.2.2.2.2 hlen) hstack hdg
  exact ⟨mk, vm₁, X₁, X₁.named hnamed, fun target h => hstep₁ _ fun acts => by rw [doInvoke_state]; exact h⟩
theorem inv_stat (X : Stand p l e R s mi args below meth c T locs cells slots) (hexec : p.tables.exec = Jvm.exec) {own : String} {index mid : Nat} (hm : mid < mNum) (hown : s.vm.findClass own = some mi.cls)
    (hlink : (Cond.methodLink own index (mY mid)).before args s = true) (hstat : (Cond.static (mY mid)).before args s = true) (hini : (Cond.initialized (mY mid).cls).before args s = true) (hcode : (mWd mid).before args s = true)
    {g : JFrame} (hg : g.method = mi) {as rest : List Value} (hlen : as.length = mPars.getD mid 0) (hstack : g.stack = as.reverse ++ rest) (hdg : decode c.code g.pc = .ok (.invokestatic index, 3)) :
    Inv p l e R s mi args below meth c T locs cells slots g rest mid as.toArray := by
  obtain ⟨mk, methM, cM, hn, hf⟩ := mWd_spec hcode
  have hy := (mPl mid hm).2.1
  have hstatic : methM.isStatic = true := Cond.static_spec hn hf.1 hstat
  obtain ⟨kP, hkP, -⟩ := className_of_methodNamed hn
  have hinitP : kP.init = .initialized := Cond.initialized_spec (findClass_of_methodNamed hn) hkP hini
  obtain ⟨vm₁, X₁, hstep₁⟩ := X.invokestatic hexec hown hlink hn hf.1 hstatic hkP hinitP hy (g := g) hg (argsL := as) (rest := rest) (mlen hm hf.2.2.2.2.2.2.2 hlen) hstack hdg
  exact ⟨mk, vm₁, X₁, X₁.named hn, fun target h => hstep₁ _ fun acts => by rw [doInvoke_state]; exact h⟩
theorem inv_statN (X : Stand p l e R s mi args below meth c T locs cells slots) (hexec : p.tables.exec = Jvm.exec) {own host : String} {index mid : Nat} (hm : mid < mNum) (hown : s.vm.findClass own = some mi.cls)
    (hlink : (Cond.methodLinkNest own index (mY mid) host).before args s = true) (hstat : (Cond.static (mY mid)).before args s = true) (hini : (Cond.initialized (mY mid).cls).before args s = true) (hcode : (mWd mid).before args s = true)
    {g : JFrame} (hg : g.method = mi) {as rest : List Value} (hlen : as.length = mPars.getD mid 0) (hstack : g.stack = as.reverse ++ rest) (hdg : decode c.code g.pc = .ok (.invokestatic index, 3)) :
    Inv p l e R s mi args below meth c T locs cells slots g rest mid as.toArray := by
  obtain ⟨mk, methM, cM, hn, hf⟩ := mWd_spec hcode
  have hy := (mPl mid hm).2.1
  have hstatic : methM.isStatic = true := Cond.static_spec hn hf.1 hstat
  obtain ⟨kP, hkP, -⟩ := className_of_methodNamed hn
  have hinitP : kP.init = .initialized := Cond.initialized_spec (findClass_of_methodNamed hn) hkP hini
  obtain ⟨vm₁, X₁, hstep₁⟩ := X.invokestaticNest hexec hown hlink hn hf.1 hstatic hkP hinitP hy (g := g) hg (argsL := as) (rest := rest) (mlen hm hf.2.2.2.2.2.2.2 hlen) hstack hdg
  exact ⟨mk, vm₁, X₁, X₁.named hn, fun target h => hstep₁ _ fun acts => by rw [doInvoke_state]; exact h⟩
theorem code_init {mid : Nat} (hm : mid < mNum) (hy1 : (mY mid).name = "<init>") (hrt : mRt mid = none) (hcode : (mWd mid).before args s = true) : (Cond.code (mY mid) (mCod mid) (mMax mid) none).before args s = true := by
  have h := hcode
  unfold mWd at h
  rw [raw_init mid hm hy1, hrt] at h
  exact h
theorem plen {mid : Nat} {as : List Value} (hm : mid < mNum) (hl : as.length = mPars.getD mid 0) : ∀ sig, parseMethodDescriptor (mY mid).desc = some sig → as.length = sig.parameters.length := by
  intro sig hs
  have h := mPar_ok mid hm
  unfold mPar at h
  rw [hs] at h
  rw [hl]
  exact (Option.some.inj h).symm
theorem inv_init (X : Stand p l e R s mi args below meth c T locs cells slots) (hexec : p.tables.exec = Jvm.exec) {own : String} {index mid : Nat} (hm : mid < mNum) (hown : s.vm.findClass own = some mi.cls) (hy1 : (mY mid).name = "<init>") (hrt : mRt mid = none)
    (hlink : (Cond.methodLink own index (mY mid)).before args s = true) (hinst : (Cond.instanceMethod (mY mid)).before args s = true) (hcode : (mWd mid).before args s = true)
    {b : Addr} {g : JFrame} (hg : g.method = mi) {as rest : List Value} (hlen : as.length = mPars.getD mid 0) (hstack : g.stack = as.reverse ++ .ref b :: rest) (hdg : decode c.code g.pc = .ok (.invokespecial index, 3)) :
    Inv p l e R s mi args below meth c T locs cells slots g rest mid (Value.ref b :: as).toArray := by
  have hpl : e.platform.magicAccessors = ({} : Platform).magicAccessors := by rw [X.admits.platform]
  obtain ⟨mk, methM, cM, kP, vm₁, hnamed, hmethM, hcodeM, -, hlocalsM, -, hkP, -, hW₁, hstep₁⟩ := Steps.initColdArgs (tb := p.tables) (e := e) X.here hexec X.warmed hpl hown hy1 (mPl mid hm).2.1 hlink hinst (code_init hm hy1 hrt hcode) (f := g) hg (plen hm hlen) hstack hdg
  have X₁ := X.noted hW₁
  exact ⟨mk, vm₁, X₁, X₁.named hnamed, fun target h => hstep₁ _ fun acts => by rw [doInvoke_state]; exact h⟩
theorem inv_initN (X : Stand p l e R s mi args below meth c T locs cells slots) (hexec : p.tables.exec = Jvm.exec) {own host : String} {index mid : Nat} (hm : mid < mNum) (hown : s.vm.findClass own = some mi.cls) (hy1 : (mY mid).name = "<init>") (hrt : mRt mid = none)
    (hlink : (Cond.methodLinkNest own index (mY mid) host).before args s = true) (hinst : (Cond.instanceMethod (mY mid)).before args s = true) (hcode : (mWd mid).before args s = true)
    {b : Addr} {g : JFrame} (hg : g.method = mi) {as rest : List Value} (hlen : as.length = mPars.getD mid 0) (hstack : g.stack = as.reverse ++ .ref b :: rest) (hdg : decode c.code g.pc = .ok (.invokespecial index, 3)) :
    Inv p l e R s mi args below meth c T locs cells slots g rest mid (Value.ref b :: as).toArray := by
  have hpl : e.platform.magicAccessors = ({} : Platform).magicAccessors := by rw [X.admits.platform]
  obtain ⟨mk, methM, cM, kP, vm₁, hnamed, hmethM, hcodeM, -, hlocalsM, -, hkP, -, hW₁, hstep₁⟩ := Steps.initColdArgsNest (tb := p.tables) (e := e) X.here hexec X.warmed hpl hown hy1 (mPl mid hm).2.1 hlink hinst (code_init hm hy1 hrt hcode) (f := g) hg (plen hm hlen) hstack hdg
  have X₁ := X.noted hW₁
  exact ⟨mk, vm₁, X₁, X₁.named hnamed, fun target h => hstep₁ _ fun acts => by rw [doInvoke_state]; exact h⟩
theorem inv_ord (X : Stand p l e R s mi args below meth c T locs cells slots) (hexec : p.tables.exec = Jvm.exec) {own : String} {index : Nat} (hown : s.vm.findClass own = some mi.cls)
    (hlink : (Cond.methodLink own index opOrd).before args s = true) (hsame : (Cond.sameMethod opOrd.cls "java/lang/Enum" opOrd.name opOrd.desc).before args s = true) (hsel : (Cond.selects (cNm 25) opOrd (mY 25)).before args s = true) (hinst : (Cond.instanceMethod (mY 25)).before args s = true) (hcode : (mWd 25).before args s = true)
    {b : Addr} {cellB : Cell} (hcell : T.heap[b]? = some cellB) (hobj : cellB.vm.isStatics = false) (hcls : s.vm.findClass (cNm 25) = some cellB.cls)
    {g : JFrame} (hg : g.method = mi) {rest : List Value} (hstack : g.stack = .ref b :: rest) (hdg : decode c.code g.pc = .ok (.invokevirtual index, 3)) :
    Inv p l e R s mi args below meth c T locs cells slots g rest 25 [Value.ref b].toArray := by
  obtain ⟨mk, methM, hnamed, hmethM, hstM, habM⟩ := Cond.instanceMethod_spec hinst
  obtain ⟨mk', methM', cM, hn', hf⟩ := mWd_spec hcode
  cases hnamed.symm.trans hn'
  cases hmethM.symm.trans hf.1
  obtain ⟨cn, ck, r1, hcn, hck, hni, hfd, hn1⟩ := Cond.sameMethod_found hsame
  have hn2 : s.methodNamed? ⟨"java/lang/Enum", opOrd.name, opOrd.desc⟩ = some mk := hnamed
  cases hn2.symm.trans hn1
  obtain ⟨c2, r2, m2, q1, q2, q3, q4, kP, hkP, hkPi⟩ := Cond.selects_spec hsel
  cases hcls.symm.trans q1
  cases hfd.symm.trans q2
  cases hnamed.symm.trans q3
  have hselP : selectMethod e.platform s.vm cellB.cls mk = .method mk := by rw [Launch.admits_selectMethod X.admits]; exact q4
  obtain ⟨vm₁, X₁, hstep₁⟩ := X.invokevirtualUp hexec hown hlink hsame (by decide) hn2 hmethM hstM (a := b) (cell := cellB) hcell
    (fun z h => by rw [h] at hobj; cases hobj) hselP hmethM habM hkP hkPi (g := g) hg (argsL := []) (rest := rest) (mlen (mid := 25) (by decide) hf.2.2.2.2.2.2.2 (by decide)) hstack hdg
  exact ⟨mk, vm₁, X₁, X₁.named hnamed, fun target h => hstep₁ _ fun acts => by rw [doInvoke_state]; exact h⟩
theorem inv_face (X : Stand p l e R s mi args below meth c T locs cells slots) (hexec : p.tables.exec = Jvm.exec) {own C : String} {index count mid : Nat} (hm : mid < mNum) (hpar : mPars.getD mid 0 = 2) (hown : s.vm.findClass own = some mi.cls)
    (hlink : (Cond.methodLink own index nodeRun).before args s = true) (hF : va_Fw C nodeRun (mY mid) s) (hsel : (Cond.selects C nodeRun (mY mid)).before args s = true) (hinst : (Cond.instanceMethod (mY mid)).before args s = true)
    {b : Addr} {cellB : Cell} (hcell : T.heap[b]? = some cellB) (hobj : cellB.vm.isStatics = false) (hcls : s.vm.findClass C = some cellB.cls)
    {g : JFrame} (hg : g.method = mi) {as rest : List Value} (hlen : as.length = 2) (hstack : g.stack = as.reverse ++ .ref b :: rest) (hdg : decode c.code g.pc = .ok (.invokeinterface index count, 5)) :
    Inv p l e R s mi args below meth c T locs cells slots g rest mid (Value.ref b :: as).toArray := by
  obtain ⟨hdecl, hface, hpub, hunh, hcast⟩ := hF
  obtain ⟨kB, hkB, -⟩ := Vm.findClass_spec hcls
  obtain ⟨r0, r, hn, hrm, hstR, hsigR⟩ := Cond.declares_spec hdecl
  obtain ⟨cL, kL, r1, hcL, hkL, hiL, hfoundL, hn1⟩ := Cond.interfaceMethod_spec hface
  cases hn.symm.trans hn1
  have hr0cls : r0.cls = cL := Option.some.inj ((findClass_of_methodNamed hn).symm.trans hcL)
  obtain ⟨hnameR, hdescR⟩ := name_of_methodNamed hn hrm
  obtain ⟨mk, methM, hnamed, hmethM, -, habM⟩ := Cond.instanceMethod_spec hinst
  obtain ⟨c2, r2, m2, q1, q2, q3, q4, -⟩ := Cond.selects_spec hsel
  cases hcls.symm.trans q1
  cases hfoundL.symm.trans q2
  cases hnamed.symm.trans q3
  have hselP : selectMethod e.platform s.vm cellB.cls r0 = .method mk := by rw [Launch.admits_selectMethod X.admits]; exact q4
  have hpubM : hasFlag methM.accessFlags Acc.public_ = true := Cond.publicMethod_spec hnamed hmethM hpub
  have hway : ((cellB.cls :: s.vm.superclasses cellB.cls).any fun k => (declaredIn s.vm r.name r.desc k).any fun (_, z) => z.isPrivate || z.isStatic) = false := by
    rw [hnameR, hdescR]; exact Cond.unhidden_spec hcls hunh
  obtain ⟨c3, t3, w1, w2, w3⟩ := Cond.castable_spec hcast
  cases hcls.symm.trans w1
  cases hcL.symm.trans w2
  have hlenR : as.length = r.sig.parameters.length := by
    have h1 : (parseMethodDescriptor nodeRun.desc).map (fun d => d.parameters.length) = some 2 := by decide +kernel
    rw [hsigR] at h1
    rw [hlen]
    exact (Option.some.inj h1).symm
  obtain ⟨vm₁, X₁, hstep₁⟩ := X.invokeinterface hexec hown hlink hn hrm hstR (by rw [hr0cls]; exact hkL) hiL (by decide) (a := b) (cell := cellB) (kcell := kB) hcell
    (fun z h => by rw [h] at hobj; cases hobj) hkB (by rw [hr0cls]; exact w3) hselP hmethM hway hpubM habM (g := g) hg (argsL := as) (rest := rest) hlenR hstack hdg
  exact ⟨mk, vm₁, X₁, X₁.named hnamed, fun target h => hstep₁ _ fun acts => by rw [doInvoke_state]; exact h⟩
end inv

