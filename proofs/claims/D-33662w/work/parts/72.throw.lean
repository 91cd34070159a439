/-! ===== exceptions: the words of a throw ===== -/
set_option maxRecDepth 100000 in
theorem thw_IAE {G : GG} {b0 : Nat} {s : State} {args : Array Value} (hts : ∀ w ∈ lw_all, w.before args s = true) (hE : Env G b0 s) : ∀ w ∈ vx_at0 "CrumbPictures" 92 "java/lang/IllegalArgumentException" ["java/lang/RuntimeException", "java/lang/Exception"], w.before args s = true := by
  intro w hw
  obtain ⟨h1, h2⟩ := List.mem_filter.mp hw
  simp only [Bundle.ownAtoms0, Bundle.throwableAtoms, Bundle.chain0Atoms, Bundle.passAtoms, List.mem_append, List.mem_cons, List.not_mem_nil, or_false, or_assoc] at h1
  rcases h1 with h1 | h1 | h1 | h1 | h1 | h1 | h1 | h1 | h1 | h1 | h1 | h1 | h1 | h1 | h1 | h1 | h1 | h1 | h1 | h1 | h1 | h1 | h1 | h1 | h1 | h1 | h1 | h1 | h1 | h1 | h1 | h1 | h1 | h1 | h1 | h1 | h1 | h1 | h1 | h1 | h1 | h1 | h1 | h1 | h1 | h1 | h1 | h1 | h1 | h1 | h1 | h1 | h1
  · rw [h1]; exact hts _ q111
  · rw [h1]; exact hts _ q273
  · rw [h1]; exact hts _ q282
  · rw [h1]; exact hts _ q289
  · rw [h1]; exact hts _ q292
  · rw [h1]; exact hts _ q294
  · rw [h1]; exact hts _ q274
  · rw [h1]; exact hts _ q275
  · rw [h1]; exact hts _ q150
  · rw [h1]; exact hts _ q151
  · rw [h1]; exact hts _ q276
  · rw [h1]; exact hts _ q281
  · rw [h1]; exact hts _ q290
  · rw [h1]; exact hts _ q307
  · rw [h1]; exact hts _ q263
  · rw [h1]; exact hts _ q308
  · rw [h1]; exact hts _ q265
  · rw [h1]; exact hts _ q309
  · rw [h1]; exact hts _ q267
  · rw [h1]; exact hts _ q277
  · rw [h1] at h2; exact absurd h2 (by decide)
  · rw [h1]; exact hts _ q279
  · rw [h1] at h2; exact absurd h2 (by decide)
  · rw [h1]; exact hts _ q269
  · rw [h1]; exact hts _ q1380
  · rw [h1]; exact hts _ q1381
  · rw [h1]; exact hts _ q1382
  · rw [h1]; exact hts _ q299
  · rw [h1]; exact hE.nb q254 rfl
  · rw [h1]; exact hts _ q299
  · rw [h1]; exact hts _ q300
  · rw [h1]; exact hts _ q301
  · rw [h1]; exact hts _ q302
  · rw [h1]; exact hE.nb q256 rfl
  · rw [h1]; exact hts _ q302
  · rw [h1]; exact hts _ q303
  · rw [h1]; exact hts _ q304
  · rw [h1]; exact hts _ q274
  · rw [h1]; exact hE.nb q258 rfl
  · rw [h1]; exact hts _ q1379
  · rw [h1]; exact hts _ q848
  · rw [h1]; exact hE.nb q849 rfl
  · rw [h1]; exact hts _ q850
  · rw [h1]; exact hts _ q285
  · rw [h1]; exact hts _ q851
  · rw [h1]; exact hts _ q852
  · rw [h1]; exact hts _ q853
  · rw [h1]; exact hts _ q854
  · rw [h1] at h2; exact absurd h2 (by decide)
  · rw [h1] at h2; exact absurd h2 (by decide)
  · rw [h1]; exact hts _ q305
  · rw [h1]; exact hts _ q271
  · rw [h1]; exact hts _ q855
theorem thg_IAE : ∀ w ∈ Cond.classLink "CrumbPictures" 90 "java/lang/IllegalArgumentException" :: Cond.initialized "java/lang/IllegalArgumentException" :: vx_at0 "CrumbPictures" 92 "java/lang/IllegalArgumentException" ["java/lang/RuntimeException", "java/lang/Exception"], vx_ot w = true := by
  intro w hw
  rcases List.mem_cons.mp hw with h | hw1
  · rw [h]; rfl
  rcases List.mem_cons.mp hw1 with h | hw2
  · rw [h]; rfl
  obtain ⟨h1, h2⟩ := List.mem_filter.mp hw2
  simp only [Bundle.ownAtoms0, Bundle.throwableAtoms, Bundle.chain0Atoms, Bundle.passAtoms, List.mem_append, List.mem_cons, List.not_mem_nil, or_false, or_assoc] at h1
  rcases h1 with h1 | h1 | h1 | h1 | h1 | h1 | h1 | h1 | h1 | h1 | h1 | h1 | h1 | h1 | h1 | h1 | h1 | h1 | h1 | h1 | h1 | h1 | h1 | h1 | h1 | h1 | h1 | h1 | h1 | h1 | h1 | h1 | h1 | h1 | h1 | h1 | h1 | h1 | h1 | h1 | h1 | h1 | h1 | h1 | h1 | h1 | h1 | h1 | h1 | h1 | h1 | h1 | h1
  · rw [h1]; rfl
  · rw [h1]; rfl
  · rw [h1]; rfl
  · rw [h1]; rfl
  · rw [h1]; rfl
  · rw [h1]; rfl
  · rw [h1]; rfl
  · rw [h1]; rfl
  · rw [h1]; rfl
  · rw [h1]; rfl
  · rw [h1]; rfl
  · rw [h1]; rfl
  · rw [h1]; rfl
  · rw [h1]; rfl
  · rw [h1]; rfl
  · rw [h1]; rfl
  · rw [h1]; rfl
  · rw [h1]; rfl
  · rw [h1]; rfl
  · rw [h1]; rfl
  · rw [h1] at h2; exact absurd h2 (by decide)
  · rw [h1]; rfl
  · rw [h1] at h2; exact absurd h2 (by decide)
  · rw [h1]; rfl
  · rw [h1]; rfl
  · rw [h1]; rfl
  · rw [h1]; rfl
  · rw [h1]; rfl
  · rw [h1]; rfl
  · rw [h1]; rfl
  · rw [h1]; rfl
  · rw [h1]; rfl
  · rw [h1]; rfl
  · rw [h1]; rfl
  · rw [h1]; rfl
  · rw [h1]; rfl
  · rw [h1]; rfl
  · rw [h1]; rfl
  · rw [h1]; rfl
  · rw [h1]; rfl
  · rw [h1]; rfl
  · rw [h1]; rfl
  · rw [h1]; rfl
  · rw [h1]; rfl
  · rw [h1]; rfl
  · rw [h1]; rfl
  · rw [h1]; rfl
  · rw [h1]; rfl
  · rw [h1] at h2; exact absurd h2 (by decide)
  · rw [h1] at h2; exact absurd h2 (by decide)
  · rw [h1]; rfl
  · rw [h1]; rfl
  · rw [h1]; rfl
set_option maxRecDepth 100000 in
theorem thw_IOO {G : GG} {b0 : Nat} {s : State} {args : Array Value} (hts : ∀ w ∈ lw_all, w.before args s = true) (hE : Env G b0 s) : ∀ w ∈ vx_at0 "CrumbPictures" 95 "java/lang/IndexOutOfBoundsException" ["java/lang/RuntimeException", "java/lang/Exception"], w.before args s = true := by
  intro w hw
  obtain ⟨h1, h2⟩ := List.mem_filter.mp hw
  simp only [Bundle.ownAtoms0, Bundle.throwableAtoms, Bundle.chain0Atoms, Bundle.passAtoms, List.mem_append, List.mem_cons, List.not_mem_nil, or_false, or_assoc] at h1
  rcases h1 with h1 | h1 | h1 | h1 | h1 | h1 | h1 | h1 | h1 | h1 | h1 | h1 | h1 | h1 | h1 | h1 | h1 | h1 | h1 | h1 | h1 | h1 | h1 | h1 | h1 | h1 | h1 | h1 | h1 | h1 | h1 | h1 | h1 | h1 | h1 | h1 | h1 | h1 | h1 | h1 | h1 | h1 | h1 | h1 | h1 | h1 | h1 | h1 | h1 | h1 | h1 | h1 | h1
  · rw [h1]; exact hts _ q111
  · rw [h1]; exact hts _ q273
  · rw [h1]; exact hts _ q282
  · rw [h1]; exact hts _ q289
  · rw [h1]; exact hts _ q292
  · rw [h1]; exact hts _ q294
  · rw [h1]; exact hts _ q274
  · rw [h1]; exact hts _ q275
  · rw [h1]; exact hts _ q150
  · rw [h1]; exact hts _ q151
  · rw [h1]; exact hts _ q276
  · rw [h1]; exact hts _ q281
  · rw [h1]; exact hts _ q290
  · rw [h1]; exact hts _ q307
  · rw [h1]; exact hts _ q263
  · rw [h1]; exact hts _ q308
  · rw [h1]; exact hts _ q265
  · rw [h1]; exact hts _ q309
  · rw [h1]; exact hts _ q267
  · rw [h1]; exact hts _ q277
  · rw [h1] at h2; exact absurd h2 (by decide)
  · rw [h1]; exact hts _ q279
  · rw [h1] at h2; exact absurd h2 (by decide)
  · rw [h1]; exact hts _ q269
  · rw [h1]; exact hts _ q1369
  · rw [h1]; exact hts _ q1370
  · rw [h1]; exact hts _ q1371
  · rw [h1]; exact hts _ q299
  · rw [h1]; exact hE.nb q254 rfl
  · rw [h1]; exact hts _ q299
  · rw [h1]; exact hts _ q300
  · rw [h1]; exact hts _ q301
  · rw [h1]; exact hts _ q302
  · rw [h1]; exact hE.nb q256 rfl
  · rw [h1]; exact hts _ q302
  · rw [h1]; exact hts _ q303
  · rw [h1]; exact hts _ q304
  · rw [h1]; exact hts _ q274
  · rw [h1]; exact hE.nb q258 rfl
  · rw [h1]; exact hts _ q1368
  · rw [h1]; exact hts _ q1111
  · rw [h1]; exact hE.nb q1112 rfl
  · rw [h1]; exact hts _ q1113
  · rw [h1]; exact hts _ q287
  · rw [h1]; exact hts _ q1114
  · rw [h1]; exact hts _ q1115
  · rw [h1]; exact hts _ q1116
  · rw [h1]; exact hts _ q1117
  · rw [h1] at h2; exact absurd h2 (by decide)
  · rw [h1] at h2; exact absurd h2 (by decide)
  · rw [h1]; exact hts _ q305
  · rw [h1]; exact hts _ q271
  · rw [h1]; exact hts _ q1118
theorem thg_IOO : ∀ w ∈ Cond.classLink "CrumbPictures" 93 "java/lang/IndexOutOfBoundsException" :: Cond.initialized "java/lang/IndexOutOfBoundsException" :: vx_at0 "CrumbPictures" 95 "java/lang/IndexOutOfBoundsException" ["java/lang/RuntimeException", "java/lang/Exception"], vx_ot w = true := by
  intro w hw
  rcases List.mem_cons.mp hw with h | hw1
  · rw [h]; rfl
  rcases List.mem_cons.mp hw1 with h | hw2
  · rw [h]; rfl
  obtain ⟨h1, h2⟩ := List.mem_filter.mp hw2
  simp only [Bundle.ownAtoms0, Bundle.throwableAtoms, Bundle.chain0Atoms, Bundle.passAtoms, List.mem_append, List.mem_cons, List.not_mem_nil, or_false, or_assoc] at h1
  rcases h1 with h1 | h1 | h1 | h1 | h1 | h1 | h1 | h1 | h1 | h1 | h1 | h1 | h1 | h1 | h1 | h1 | h1 | h1 | h1 | h1 | h1 | h1 | h1 | h1 | h1 | h1 | h1 | h1 | h1 | h1 | h1 | h1 | h1 | h1 | h1 | h1 | h1 | h1 | h1 | h1 | h1 | h1 | h1 | h1 | h1 | h1 | h1 | h1 | h1 | h1 | h1 | h1 | h1
  · rw [h1]; rfl
  · rw [h1]; rfl
  · rw [h1]; rfl
  · rw [h1]; rfl
  · rw [h1]; rfl
  · rw [h1]; rfl
  · rw [h1]; rfl
  · rw [h1]; rfl
  · rw [h1]; rfl
  · rw [h1]; rfl
  · rw [h1]; rfl
  · rw [h1]; rfl
  · rw [h1]; rfl
  · rw [h1]; rfl
  · rw [h1]; rfl
  · rw [h1]; rfl
  · rw [h1]; rfl
  · rw [h1]; rfl
  · rw [h1]; rfl
  · rw [h1]; rfl
  · rw [h1] at h2; exact absurd h2 (by decide)
  · rw [h1]; rfl
  · rw [h1] at h2; exact absurd h2 (by decide)
  · rw [h1]; rfl
  · rw [h1]; rfl
  · rw [h1]; rfl
  · rw [h1]; rfl
  · rw [h1]; rfl
  · rw [h1]; rfl
  · rw [h1]; rfl
  · rw [h1]; rfl
  · rw [h1]; rfl
  · rw [h1]; rfl
  · rw [h1]; rfl
  · rw [h1]; rfl
  · rw [h1]; rfl
  · rw [h1]; rfl
  · rw [h1]; rfl
  · rw [h1]; rfl
  · rw [h1]; rfl
  · rw [h1]; rfl
  · rw [h1]; rfl
  · rw [h1]; rfl
  · rw [h1]; rfl
  · rw [h1]; rfl
  · rw [h1]; rfl
  · rw [h1]; rfl
  · rw [h1]; rfl
  · rw [h1] at h2; exact absurd h2 (by decide)
  · rw [h1] at h2; exact absurd h2 (by decide)
  · rw [h1]; rfl
  · rw [h1]; rfl
  · rw [h1]; rfl
set_option maxRecDepth 100000 in
theorem thw_ISE {G : GG} {b0 : Nat} {s : State} {args : Array Value} (hts : ∀ w ∈ lw_all, w.before args s = true) (hE : Env G b0 s) : ∀ w ∈ vx_at0 "CrumbPictures" 98 "java/lang/IllegalStateException" ["java/lang/RuntimeException", "java/lang/Exception"], w.before args s = true := by
  intro w hw
  obtain ⟨h1, h2⟩ := List.mem_filter.mp hw
  simp only [Bundle.ownAtoms0, Bundle.throwableAtoms, Bundle.chain0Atoms, Bundle.passAtoms, List.mem_append, List.mem_cons, List.not_mem_nil, or_false, or_assoc] at h1
  rcases h1 with h1 | h1 | h1 | h1 | h1 | h1 | h1 | h1 | h1 | h1 | h1 | h1 | h1 | h1 | h1 | h1 | h1 | h1 | h1 | h1 | h1 | h1 | h1 | h1 | h1 | h1 | h1 | h1 | h1 | h1 | h1 | h1 | h1 | h1 | h1 | h1 | h1 | h1 | h1 | h1 | h1 | h1 | h1 | h1 | h1 | h1 | h1 | h1 | h1 | h1 | h1 | h1 | h1
  · rw [h1]; exact hts _ q111
  · rw [h1]; exact hts _ q273
  · rw [h1]; exact hts _ q282
  · rw [h1]; exact hts _ q289
  · rw [h1]; exact hts _ q292
  · rw [h1]; exact hts _ q294
  · rw [h1]; exact hts _ q274
  · rw [h1]; exact hts _ q275
  · rw [h1]; exact hts _ q150
  · rw [h1]; exact hts _ q151
  · rw [h1]; exact hts _ q276
  · rw [h1]; exact hts _ q281
  · rw [h1]; exact hts _ q290
  · rw [h1]; exact hts _ q307
  · rw [h1]; exact hts _ q263
  · rw [h1]; exact hts _ q308
  · rw [h1]; exact hts _ q265
  · rw [h1]; exact hts _ q309
  · rw [h1]; exact hts _ q267
  · rw [h1]; exact hts _ q277
  · rw [h1] at h2; exact absurd h2 (by decide)
  · rw [h1]; exact hts _ q279
  · rw [h1] at h2; exact absurd h2 (by decide)
  · rw [h1]; exact hts _ q269
  · rw [h1]; exact hts _ q1405
  · rw [h1]; exact hts _ q1406
  · rw [h1]; exact hts _ q1407
  · rw [h1]; exact hts _ q299
  · rw [h1]; exact hE.nb q254 rfl
  · rw [h1]; exact hts _ q299
  · rw [h1]; exact hts _ q300
  · rw [h1]; exact hts _ q301
  · rw [h1]; exact hts _ q302
  · rw [h1]; exact hE.nb q256 rfl
  · rw [h1]; exact hts _ q302
  · rw [h1]; exact hts _ q303
  · rw [h1]; exact hts _ q304
  · rw [h1]; exact hts _ q274
  · rw [h1]; exact hE.nb q258 rfl
  · rw [h1]; exact hts _ q1404
  · rw [h1]; exact hts _ q1396
  · rw [h1]; exact hE.nb q1397 rfl
  · rw [h1]; exact hts _ q1398
  · rw [h1]; exact hts _ q286
  · rw [h1]; exact hts _ q1399
  · rw [h1]; exact hts _ q1400
  · rw [h1]; exact hts _ q1401
  · rw [h1]; exact hts _ q1402
  · rw [h1] at h2; exact absurd h2 (by decide)
  · rw [h1] at h2; exact absurd h2 (by decide)
  · rw [h1]; exact hts _ q305
  · rw [h1]; exact hts _ q271
  · rw [h1]; exact hts _ q1403
theorem thg_ISE : ∀ w ∈ Cond.classLink "CrumbPictures" 96 "java/lang/IllegalStateException" :: Cond.initialized "java/lang/IllegalStateException" :: vx_at0 "CrumbPictures" 98 "java/lang/IllegalStateException" ["java/lang/RuntimeException", "java/lang/Exception"], vx_ot w = true := by
  intro w hw
  rcases List.mem_cons.mp hw with h | hw1
  · rw [h]; rfl
  rcases List.mem_cons.mp hw1 with h | hw2
  · rw [h]; rfl
  obtain ⟨h1, h2⟩ := List.mem_filter.mp hw2
  simp only [Bundle.ownAtoms0, Bundle.throwableAtoms, Bundle.chain0Atoms, Bundle.passAtoms, List.mem_append, List.mem_cons, List.not_mem_nil, or_false, or_assoc] at h1
  rcases h1 with h1 | h1 | h1 | h1 | h1 | h1 | h1 | h1 | h1 | h1 | h1 | h1 | h1 | h1 | h1 | h1 | h1 | h1 | h1 | h1 | h1 | h1 | h1 | h1 | h1 | h1 | h1 | h1 | h1 | h1 | h1 | h1 | h1 | h1 | h1 | h1 | h1 | h1 | h1 | h1 | h1 | h1 | h1 | h1 | h1 | h1 | h1 | h1 | h1 | h1 | h1 | h1 | h1
  · rw [h1]; rfl
  · rw [h1]; rfl
  · rw [h1]; rfl
  · rw [h1]; rfl
  · rw [h1]; rfl
  · rw [h1]; rfl
  · rw [h1]; rfl
  · rw [h1]; rfl
  · rw [h1]; rfl
  · rw [h1]; rfl
  · rw [h1]; rfl
  · rw [h1]; rfl
  · rw [h1]; rfl
  · rw [h1]; rfl
  · rw [h1]; rfl
  · rw [h1]; rfl
  · rw [h1]; rfl
  · rw [h1]; rfl
  · rw [h1]; rfl
  · rw [h1]; rfl
  · rw [h1] at h2; exact absurd h2 (by decide)
  · rw [h1]; rfl
  · rw [h1] at h2; exact absurd h2 (by decide)
  · rw [h1]; rfl
  · rw [h1]; rfl
  · rw [h1]; rfl
  · rw [h1]; rfl
  · rw [h1]; rfl
  · rw [h1]; rfl
  · rw [h1]; rfl
  · rw [h1]; rfl
  · rw [h1]; rfl
  · rw [h1]; rfl
  · rw [h1]; rfl
  · rw [h1]; rfl
  · rw [h1]; rfl
  · rw [h1]; rfl
  · rw [h1]; rfl
  · rw [h1]; rfl
  · rw [h1]; rfl
  · rw [h1]; rfl
  · rw [h1]; rfl
  · rw [h1]; rfl
  · rw [h1]; rfl
  · rw [h1]; rfl
  · rw [h1]; rfl
  · rw [h1]; rfl
  · rw [h1]; rfl
  · rw [h1] at h2; exact absurd h2 (by decide)
  · rw [h1] at h2; exact absurd h2 (by decide)
  · rw [h1]; rfl
  · rw [h1]; rfl
  · rw [h1]; rfl
def rm_X1_need_t : Room := ({ frames := 0, cells := 0, slots := 0, locals := 0 } : Room)
set_option maxHeartbeats 400000 in
set_option maxRecDepth 100000 in
theorem t_X1_need_t (l : Launch) (G : GG) (b0 sz : Nat) : CT l yX1_need cX1_need 1 none (rm_X1_need_t) G b0 [.int (bI true)] [] sz (Rv G (fun (_ : Unit) => True) (fun (_ : Unit) => [])) := by
  refine CT.go (by decide) (Nat.le_of_ble_eq_true rfl) (fun p e s m below meth c A ls AR QQ hx hb hr hlk hml hown hnm hts hE hA hAb hsz hP hD hS hl hQQ => ?_)
  have hK := hE.1
  have hown : s.vm.findClass RX1 = some m.cls := hown
  have hl : lv_has ls 1 [(0, .int (bI true))] := hl
  clear hsz
  refine lv_iload_n hx hb dX1_need_0 rfl (lv_at hl 0 rfl) ?_
  refine B_if_ne (tgt := 12) hx hb dX1_need_1 (by decide) (fun c_1 => ?_) (fun c_1 => ?_)
  · skip
    rw [hQQ]
    exact rt_v hx hb hr hlk ((())) dX1_need_12 hP hD hS (by first | exact Nat.le_of_ble_eq_true rfl | (simp only [rm_X1_need_t]; omega) | omega) (by first | exact Nat.le_of_ble_eq_true rfl | (simp only [rm_X1_need_t]; omega) | omega) trivial
  · skip
    exfalso; cases c_1
def rm_X1_need_f : Room := ({ frames := 8, cells := 1, slots := 6, locals := 120 } : Room)
set_option maxHeartbeats 400000 in
set_option maxRecDepth 100000 in
theorem t_X1_need_f (l : Launch) (G : GG) (b0 sz : Nat) (htr : l.stackTraces = false) : CTX l yX1_need cX1_need 1 none (rm_X1_need_f) G b0 [.int (bI false)] [] sz "java/lang/IllegalArgumentException" (fun (_ : Unit) => True) (fun (_ : Unit) => []) := by
  refine CTX.go (by decide) (Nat.le_of_ble_eq_true rfl) (fun p e s m below meth c A ls AR QQ hx hb hr hlk hml hown hnm hts hE hA hAb hsz hP hD hS hl hexT hQQ => ?_)
  have hK := hE.1
  have hown : s.vm.findClass RX1 = some m.cls := hown
  have hl : lv_has ls 1 [(0, .int (bI false))] := hl
  clear hsz
  refine lv_iload_n hx hb dX1_need_0 rfl (lv_at hl 0 rfl) ?_
  refine B_if_ne (tgt := 12) hx hb dX1_need_1 (by decide) (fun c_1 => ?_) (fun c_1 => ?_)
  · skip
    exfalso; cases c_1
  · skip
    rw [hQQ]
    exact vx_throw0 (own := "CrumbPictures") (cls := "java/lang/IllegalArgumentException") (names := ["java/lang/RuntimeException", "java/lang/Exception"]) (ik := 90) (ic := 92) hx hb htr hown (by decide) (by decide) (hts _ q1378) (hts _ q132) (thw_IAE hts hE) thg_IAE (hE.2.2.2.2.2.2.nar hAb).2.2.2.2.2.2.2.2.2.2.1 (hE.2.2.2.2.2.2.nar hAb).2.2.2.2.2.2.2.2.2.2.2.1 hS (hl.1.trans hml.symm) dX1_need_4 dX1_need_7 dX1_need_8 dX1_need_11 (fun x h => (hexT x h).elim) (Nat.le_of_ble_eq_true rfl) (Nat.le_of_ble_eq_true rfl) (by first | exact Nat.le_of_ble_eq_true rfl | (simp only [rm_X1_need_f]; omega) | omega) (by first | exact Nat.le_of_ble_eq_true rfl | (simp only [rm_X1_need_f]; omega) | omega) hlk (fun t _ hs9 hk9 => ⟨(()), trivial, ⟨rfl, fun k q hk => (hP k q hk).kept (hk9 q.1 (hP k q hk).lt), hD⟩, ⟨Nat.le_trans hS.1 hs9, fun q h1 h2 => (hk9 q (Nat.lt_of_lt_of_le h1 hS.1)).trans (hS.2.1 q h1 h2)⟩⟩) hS.2.2 (by first | exact Nat.le_of_ble_eq_true rfl | (simp only [rm_X1_need_f]; omega) | omega) (by first | exact Nat.le_of_ble_eq_true rfl | (simp only [rm_X1_need_f]; omega) | omega)
def rm_X1_needIndex_t : Room := ({ frames := 0, cells := 0, slots := 0, locals := 0 } : Room)
set_option maxHeartbeats 400000 in
set_option maxRecDepth 100000 in
theorem t_X1_needIndex_t (l : Launch) (G : GG) (b0 sz : Nat) : CT l yX1_needIndex cX1_needIndex 1 none (rm_X1_needIndex_t) G b0 [.int (bI true)] [] sz (Rv G (fun (_ : Unit) => True) (fun (_ : Unit) => [])) := by
  refine CT.go (by decide) (Nat.le_of_ble_eq_true rfl) (fun p e s m below meth c A ls AR QQ hx hb hr hlk hml hown hnm hts hE hA hAb hsz hP hD hS hl hQQ => ?_)
  have hK := hE.1
  have hown : s.vm.findClass RX1 = some m.cls := hown
  have hl : lv_has ls 1 [(0, .int (bI true))] := hl
  clear hsz
  refine lv_iload_n hx hb dX1_needIndex_0 rfl (lv_at hl 0 rfl) ?_
  refine B_if_ne (tgt := 12) hx hb dX1_needIndex_1 (by decide) (fun c_1 => ?_) (fun c_1 => ?_)
  · skip
    rw [hQQ]
    exact rt_v hx hb hr hlk ((())) dX1_needIndex_12 hP hD hS (by first | exact Nat.le_of_ble_eq_true rfl | (simp only [rm_X1_needIndex_t]; omega) | omega) (by first | exact Nat.le_of_ble_eq_true rfl | (simp only [rm_X1_needIndex_t]; omega) | omega) trivial
  · skip
    exfalso; cases c_1
def rm_X1_needIndex_f : Room := ({ frames := 8, cells := 1, slots := 6, locals := 120 } : Room)
set_option maxHeartbeats 400000 in
set_option maxRecDepth 100000 in
theorem t_X1_needIndex_f (l : Launch) (G : GG) (b0 sz : Nat) (htr : l.stackTraces = false) : CTX l yX1_needIndex cX1_needIndex 1 none (rm_X1_needIndex_f) G b0 [.int (bI false)] [] sz "java/lang/IndexOutOfBoundsException" (fun (_ : Unit) => True) (fun (_ : Unit) => []) := by
  refine CTX.go (by decide) (Nat.le_of_ble_eq_true rfl) (fun p e s m below meth c A ls AR QQ hx hb hr hlk hml hown hnm hts hE hA hAb hsz hP hD hS hl hexT hQQ => ?_)
  have hK := hE.1
  have hown : s.vm.findClass RX1 = some m.cls := hown
  have hl : lv_has ls 1 [(0, .int (bI false))] := hl
  clear hsz
  refine lv_iload_n hx hb dX1_needIndex_0 rfl (lv_at hl 0 rfl) ?_
  refine B_if_ne (tgt := 12) hx hb dX1_needIndex_1 (by decide) (fun c_1 => ?_) (fun c_1 => ?_)
  · skip
    exfalso; cases c_1
  · skip
    rw [hQQ]
    exact vx_throw0 (own := "CrumbPictures") (cls := "java/lang/IndexOutOfBoundsException") (names := ["java/lang/RuntimeException", "java/lang/Exception"]) (ik := 93) (ic := 95) hx hb htr hown (by decide) (by decide) (hts _ q1367) (hts _ q130) (thw_IOO hts hE) thg_IOO (hE.2.2.2.2.2.2.nar hAb).2.2.2.2.2.2.2.2.2.2.1 (hE.2.2.2.2.2.2.nar hAb).2.2.2.2.2.2.2.2.2.2.2.1 hS (hl.1.trans hml.symm) dX1_needIndex_4 dX1_needIndex_7 dX1_needIndex_8 dX1_needIndex_11 (fun x h => (hexT x h).elim) (Nat.le_of_ble_eq_true rfl) (Nat.le_of_ble_eq_true rfl) (by first | exact Nat.le_of_ble_eq_true rfl | (simp only [rm_X1_needIndex_f]; omega) | omega) (by first | exact Nat.le_of_ble_eq_true rfl | (simp only [rm_X1_needIndex_f]; omega) | omega) hlk (fun t _ hs9 hk9 => ⟨(()), trivial, ⟨rfl, fun k q hk => (hP k q hk).kept (hk9 q.1 (hP k q hk).lt), hD⟩, ⟨Nat.le_trans hS.1 hs9, fun q h1 h2 => (hk9 q (Nat.lt_of_lt_of_le h1 hS.1)).trans (hS.2.1 q h1 h2)⟩⟩) hS.2.2 (by first | exact Nat.le_of_ble_eq_true rfl | (simp only [rm_X1_needIndex_f]; omega) | omega) (by first | exact Nat.le_of_ble_eq_true rfl | (simp only [rm_X1_needIndex_f]; omega) | omega)
def rm_X1_needState_t : Room := ({ frames := 0, cells := 0, slots := 0, locals := 0 } : Room)
set_option maxHeartbeats 400000 in
set_option maxRecDepth 100000 in
theorem t_X1_needState_t (l : Launch) (G : GG) (b0 sz : Nat) : CT l yX1_needState cX1_needState 1 none (rm_X1_needState_t) G b0 [.int (bI true)] [] sz (Rv G (fun (_ : Unit) => True) (fun (_ : Unit) => [])) := by
  refine CT.go (by decide) (Nat.le_of_ble_eq_true rfl) (fun p e s m below meth c A ls AR QQ hx hb hr hlk hml hown hnm hts hE hA hAb hsz hP hD hS hl hQQ => ?_)
  have hK := hE.1
  have hown : s.vm.findClass RX1 = some m.cls := hown
  have hl : lv_has ls 1 [(0, .int (bI true))] := hl
  clear hsz
  refine lv_iload_n hx hb dX1_needState_0 rfl (lv_at hl 0 rfl) ?_
  refine B_if_ne (tgt := 12) hx hb dX1_needState_1 (by decide) (fun c_1 => ?_) (fun c_1 => ?_)
  · skip
    rw [hQQ]
    exact rt_v hx hb hr hlk ((())) dX1_needState_12 hP hD hS (by first | exact Nat.le_of_ble_eq_true rfl | (simp only [rm_X1_needState_t]; omega) | omega) (by first | exact Nat.le_of_ble_eq_true rfl | (simp only [rm_X1_needState_t]; omega) | omega) trivial
  · skip
    exfalso; cases c_1
def rm_X1_needState_f : Room := ({ frames := 8, cells := 1, slots := 6, locals := 120 } : Room)
set_option maxHeartbeats 400000 in
set_option maxRecDepth 100000 in
theorem t_X1_needState_f (l : Launch) (G : GG) (b0 sz : Nat) (htr : l.stackTraces = false) : CTX l yX1_needState cX1_needState 1 none (rm_X1_needState_f) G b0 [.int (bI false)] [] sz "java/lang/IllegalStateException" (fun (_ : Unit) => True) (fun (_ : Unit) => []) := by
  refine CTX.go (by decide) (Nat.le_of_ble_eq_true rfl) (fun p e s m below meth c A ls AR QQ hx hb hr hlk hml hown hnm hts hE hA hAb hsz hP hD hS hl hexT hQQ => ?_)
  have hK := hE.1
  have hown : s.vm.findClass RX1 = some m.cls := hown
  have hl : lv_has ls 1 [(0, .int (bI false))] := hl
  clear hsz
  refine lv_iload_n hx hb dX1_needState_0 rfl (lv_at hl 0 rfl) ?_
  refine B_if_ne (tgt := 12) hx hb dX1_needState_1 (by decide) (fun c_1 => ?_) (fun c_1 => ?_)
  · skip
    exfalso; cases c_1
  · skip
    rw [hQQ]
    exact vx_throw0 (own := "CrumbPictures") (cls := "java/lang/IllegalStateException") (names := ["java/lang/RuntimeException", "java/lang/Exception"]) (ik := 96) (ic := 98) hx hb htr hown (by decide) (by decide) (hts _ q1395) (hts _ q139) (thw_ISE hts hE) thg_ISE (hE.2.2.2.2.2.2.nar hAb).2.2.2.2.2.2.2.2.2.2.1 (hE.2.2.2.2.2.2.nar hAb).2.2.2.2.2.2.2.2.2.2.2.1 hS (hl.1.trans hml.symm) dX1_needState_4 dX1_needState_7 dX1_needState_8 dX1_needState_11 (fun x h => (hexT x h).elim) (Nat.le_of_ble_eq_true rfl) (Nat.le_of_ble_eq_true rfl) (by first | exact Nat.le_of_ble_eq_true rfl | (simp only [rm_X1_needState_f]; omega) | omega) (by first | exact Nat.le_of_ble_eq_true rfl | (simp only [rm_X1_needState_f]; omega) | omega) hlk (fun t _ hs9 hk9 => ⟨(()), trivial, ⟨rfl, fun k q hk => (hP k q hk).kept (hk9 q.1 (hP k q hk).lt), hD⟩, ⟨Nat.le_trans hS.1 hs9, fun q h1 h2 => (hk9 q (Nat.lt_of_lt_of_le h1 hS.1)).trans (hS.2.1 q h1 h2)⟩⟩) hS.2.2 (by first | exact Nat.le_of_ble_eq_true rfl | (simp only [rm_X1_needState_f]; omega) | omega) (by first | exact Nat.le_of_ble_eq_true rfl | (simp only [rm_X1_needState_f]; omega) | omega)
def rm_X1_needShade_t : Room := ({ frames := 1, cells := 0, slots := 0, locals := 30 } : Room)
set_option maxHeartbeats 400000 in
set_option maxRecDepth 100000 in
theorem t_X1_needShade_t (l : Launch) (G : GG) (b0 sz : Nat) (t : Int32) (htt : isSh t = true) : CT l yX1_needShade cX1_needShade 1 none (rm_X1_needShade_t) G b0 [.int t] [] sz (Rv G (fun (_ : Unit) => True) (fun (_ : Unit) => [])) := by
  refine CT.go (by decide) (Nat.le_of_ble_eq_true rfl) (fun p e s m below meth c A ls AR QQ hx hb hr hlk hml hown hnm hts hE hA hAb hsz hP hD hS hl hQQ => ?_)
  have hK := hE.1
  have hown : s.vm.findClass RX1 = some m.cls := hown
  have hl : lv_has ls 1 [(0, .int t)] := hl
  clear hsz
  refine lv_iload_n hx hb dX1_needShade_0 rfl (lv_at hl 0 rfl) ?_
  refine lv_iconst (v := nI 0) hx hb dX1_needShade_1 (by decide) ?_
  refine lv_sipush (v := nI 255) hx hb dX1_needShade_2 (by decide) ?_
  refine fin_i (ws' := (fun (_ : Unit) => [])) hA hS hP hD [] rfl [] (fun _ => rfl) (by decide) (run_S (As := [.int t, .int (nI 0), .int (nI 255)]) (rest := []) (n9 := 3) hx hb hml hown hts hE hAb hl.1 hS hP hD [] rfl (by decide) (t_X1_in l G b0 _ t (nI 0) (nI 255) ) (lw_S q1363 q1019 q106 q1020) ⟨by decide, by decide, by decide +kernel⟩ ⟨Nat.le_of_ble_eq_true rfl, Nat.le_of_ble_eq_true rfl⟩ ⟨by first | exact Nat.le_of_ble_eq_true rfl | (simp only [rm_X1_needShade_t, rm_X1_in]; omega), by first | exact Nat.le_of_ble_eq_true rfl | (simp only [rm_X1_needShade_t, rm_X1_in]; omega)⟩ dX1_needShade_5 (Nat.le_of_ble_eq_true rfl) rfl rfl) (fun r_1 u_1 H locs h_1 hP hD hS => ?_)
  have hP : va_P G.1 vwCl [] _ := hP
  have hD : va_D A [] := hD
  have h_1 : r_1 = (bI (inB t (nI 0) (nI 255))) := h_1
  rw [h_1]
  refine W.eq (g2 := F0 m 8 ls [.int (bI true)]) (by rw [show inB t (nI 0) (nI 255) = true from htt]) ?_
  refine fin_v (ws' := (fun (_ : Unit) => [])) hA hS hP hD [] rfl [] (fun _ => rfl) (by decide) (run_S (As := [.int (bI true)]) (rest := []) (n9 := 1) hx hb hml hown hts hE hAb hl.1 hS hP hD [] rfl (by decide) (t_X1_need_t l G b0 _  ) (lw_S q1375 q1376 q106 q1377) ⟨by decide, by decide, by decide +kernel⟩ ⟨Nat.le_of_ble_eq_true rfl, Nat.le_of_ble_eq_true rfl⟩ ⟨by first | exact Nat.le_of_ble_eq_true rfl | (simp only [rm_X1_needShade_t, rm_X1_need_t, rm_X1_in]; omega), by first | exact Nat.le_of_ble_eq_true rfl | (simp only [rm_X1_needShade_t, rm_X1_need_t, rm_X1_in]; omega)⟩ dX1_needShade_8 (Nat.le_of_ble_eq_true rfl) rfl rfl) (fun u_2 H locs h_2 hP hD hS => ?_)
  have hP : va_P G.1 vwCl [] _ := hP
  have hD : va_D A [] := hD
  rw [hQQ]
  exact rt_v hx hb hr hlk ((())) dX1_needShade_11 hP hD hS (by first | exact Nat.le_of_ble_eq_true rfl | (simp only [rm_X1_needShade_t, rm_X1_in, rm_X1_need_t]; omega) | omega) (by first | exact Nat.le_of_ble_eq_true rfl | (simp only [rm_X1_needShade_t, rm_X1_in, rm_X1_need_t]; omega) | omega) trivial
def rm_X1_needShade_f : Room := ({ frames := 10, cells := 1, slots := 6, locals := 160 } : Room)
set_option maxHeartbeats 400000 in
set_option maxRecDepth 100000 in
theorem t_X1_needShade_f (l : Launch) (G : GG) (b0 sz : Nat) (t : Int32) (htr : l.stackTraces = false) (htt : isSh t = false) : CTX l yX1_needShade cX1_needShade 1 none (rm_X1_needShade_f) G b0 [.int t] [] sz "java/lang/IllegalArgumentException" (fun (_ : Unit) => True) (fun (_ : Unit) => []) := by
  refine CTX.go (by decide) (Nat.le_of_ble_eq_true rfl) (fun p e s m below meth c A ls AR QQ hx hb hr hlk hml hown hnm hts hE hA hAb hsz hP hD hS hl hexT hQQ => ?_)
  have hK := hE.1
  have hown : s.vm.findClass RX1 = some m.cls := hown
  have hl : lv_has ls 1 [(0, .int t)] := hl
  clear hsz
  refine lv_iload_n hx hb dX1_needShade_0 rfl (lv_at hl 0 rfl) ?_
  refine lv_iconst (v := nI 0) hx hb dX1_needShade_1 (by decide) ?_
  refine lv_sipush (v := nI 255) hx hb dX1_needShade_2 (by decide) ?_
  refine fin_i (ws' := (fun (_ : Unit) => [])) hA hS hP hD [] rfl [] (fun _ => rfl) (by decide) (run_S (As := [.int t, .int (nI 0), .int (nI 255)]) (rest := []) (n9 := 3) hx hb hml hown hts hE hAb hl.1 hS hP hD [] rfl (by decide) (t_X1_in l G b0 _ t (nI 0) (nI 255) ) (lw_S q1363 q1019 q106 q1020) ⟨by decide, by decide, by decide +kernel⟩ ⟨Nat.le_of_ble_eq_true rfl, Nat.le_of_ble_eq_true rfl⟩ ⟨by first | exact Nat.le_of_ble_eq_true rfl | (simp only [rm_X1_needShade_f, rm_X1_in]; omega), by first | exact Nat.le_of_ble_eq_true rfl | (simp only [rm_X1_needShade_f, rm_X1_in]; omega)⟩ dX1_needShade_5 (Nat.le_of_ble_eq_true rfl) rfl rfl) (fun r_1 u_1 H locs h_1 hP hD hS => ?_)
  have hP : va_P G.1 vwCl [] _ := hP
  have hD : va_D A [] := hD
  have h_1 : r_1 = (bI (inB t (nI 0) (nI 255))) := h_1
  rw [h_1]
  refine W.eq (g2 := F0 m 8 ls [.int (bI false)]) (by rw [show inB t (nI 0) (nI 255) = false from htt]) ?_
  have hF_2 := fr_free (wc := []) [] rfl hA hS hD
  refine fin_x (ws' := (fun (_ : Unit) => [])) hS hF_2 (run_SX (As := [.int (bI false)]) (rest := []) (n9 := 1) hx hb hml hown hts hE hAb hl.1 hS hP hD [] rfl (by decide) (t_X1_need_f l G b0 _  (by omega)) (lw_S q1375 q1376 q106 q1377) ⟨by decide, by decide, by decide +kernel⟩ ⟨Nat.le_of_ble_eq_true rfl, Nat.le_of_ble_eq_true rfl⟩ ⟨by first | exact Nat.le_of_ble_eq_true rfl | (simp only [rm_X1_needShade_f, rm_X1_need_f, rm_X1_in]; omega), by first | exact Nat.le_of_ble_eq_true rfl | (simp only [rm_X1_needShade_f, rm_X1_need_f, rm_X1_in]; omega)⟩ dX1_needShade_8 (Nat.le_of_ble_eq_true rfl) rfl rfl) (fun _ H1_ hk_ hp_ hd_ => fr_sel (ws := []) (wc := []) (ws' := []) [] [] rfl rfl (by decide) hP hD hk_ hF_2 hp_ hd_) (fun ce9 q9 u_2 H locs h_2 hP hD hS hce9 hcv9 hcl9 => ?_)
  have hP : va_P G.1 vwCl [] _ := hP
  have hD : va_D A [] := hD
  rw [hQQ]
  exact rt_x hexT hlk (()) hP hD hS hce9 hcv9 hcl9 (by first | exact Nat.le_of_ble_eq_true rfl | (simp only [rm_X1_needShade_f, rm_X1_in, rm_X1_need_f]; omega) | omega) (by first | exact Nat.le_of_ble_eq_true rfl | (simp only [rm_X1_needShade_f, rm_X1_in, rm_X1_need_f]; omega) | omega) trivial
def rm_X1_needLevels_t : Room := ({ frames := 1, cells := 0, slots := 0, locals := 30 } : Room)
set_option maxHeartbeats 400000 in
set_option maxRecDepth 100000 in
theorem t_X1_needLevels_t (l : Launch) (G : GG) (b0 sz : Nat) (t : Int32) (htt : inB t (nI 1) (nI 3) = true) : CT l yX1_needLevels cX1_needLevels 1 none (rm_X1_needLevels_t) G b0 [.int t] [] sz (Rv G (fun (_ : Unit) => True) (fun (_ : Unit) => [])) := by
  refine CT.go (by decide) (Nat.le_of_ble_eq_true rfl) (fun p e s m below meth c A ls AR QQ hx hb hr hlk hml hown hnm hts hE hA hAb hsz hP hD hS hl hQQ => ?_)
  have hK := hE.1
  have hown : s.vm.findClass RX1 = some m.cls := hown
  have hl : lv_has ls 1 [(0, .int t)] := hl
  clear hsz
  refine lv_iload_n hx hb dX1_needLevels_0 rfl (lv_at hl 0 rfl) ?_
  refine lv_iconst (v := nI 1) hx hb dX1_needLevels_1 (by decide) ?_
  refine lv_iconst (v := nI 3) hx hb dX1_needLevels_2 (by decide) ?_
  refine fin_i (ws' := (fun (_ : Unit) => [])) hA hS hP hD [] rfl [] (fun _ => rfl) (by decide) (run_S (As := [.int t, .int (nI 1), .int (nI 3)]) (rest := []) (n9 := 3) hx hb hml hown hts hE hAb hl.1 hS hP hD [] rfl (by decide) (t_X1_in l G b0 _ t (nI 1) (nI 3) ) (lw_S q1363 q1019 q106 q1020) ⟨by decide, by decide, by decide +kernel⟩ ⟨Nat.le_of_ble_eq_true rfl, Nat.le_of_ble_eq_true rfl⟩ ⟨by first | exact Nat.le_of_ble_eq_true rfl | (simp only [rm_X1_needLevels_t, rm_X1_in]; omega), by first | exact Nat.le_of_ble_eq_true rfl | (simp only [rm_X1_needLevels_t, rm_X1_in]; omega)⟩ dX1_needLevels_3 (Nat.le_of_ble_eq_true rfl) rfl rfl) (fun r_1 u_1 H locs h_1 hP hD hS => ?_)
  have hP : va_P G.1 vwCl [] _ := hP
  have hD : va_D A [] := hD
  have h_1 : r_1 = (bI (inB t (nI 1) (nI 3))) := h_1
  rw [h_1]
  refine W.eq (g2 := F0 m 6 ls [.int (bI true)]) (by rw [htt]) ?_
  refine fin_v (ws' := (fun (_ : Unit) => [])) hA hS hP hD [] rfl [] (fun _ => rfl) (by decide) (run_S (As := [.int (bI true)]) (rest := []) (n9 := 1) hx hb hml hown hts hE hAb hl.1 hS hP hD [] rfl (by decide) (t_X1_need_t l G b0 _  ) (lw_S q1375 q1376 q106 q1377) ⟨by decide, by decide, by decide +kernel⟩ ⟨Nat.le_of_ble_eq_true rfl, Nat.le_of_ble_eq_true rfl⟩ ⟨by first | exact Nat.le_of_ble_eq_true rfl | (simp only [rm_X1_needLevels_t, rm_X1_need_t, rm_X1_in]; omega), by first | exact Nat.le_of_ble_eq_true rfl | (simp only [rm_X1_needLevels_t, rm_X1_need_t, rm_X1_in]; omega)⟩ dX1_needLevels_6 (Nat.le_of_ble_eq_true rfl) rfl rfl) (fun u_2 H locs h_2 hP hD hS => ?_)
  have hP : va_P G.1 vwCl [] _ := hP
  have hD : va_D A [] := hD
  rw [hQQ]
  exact rt_v hx hb hr hlk ((())) dX1_needLevels_9 hP hD hS (by first | exact Nat.le_of_ble_eq_true rfl | (simp only [rm_X1_needLevels_t, rm_X1_in, rm_X1_need_t]; omega) | omega) (by first | exact Nat.le_of_ble_eq_true rfl | (simp only [rm_X1_needLevels_t, rm_X1_in, rm_X1_need_t]; omega) | omega) trivial
def rm_X1_needLevels_f : Room := ({ frames := 10, cells := 1, slots := 6, locals := 160 } : Room)
set_option maxHeartbeats 400000 in
set_option maxRecDepth 100000 in
theorem t_X1_needLevels_f (l : Launch) (G : GG) (b0 sz : Nat) (t : Int32) (htr : l.stackTraces = false) (htt : inB t (nI 1) (nI 3) = false) : CTX l yX1_needLevels cX1_needLevels 1 none (rm_X1_needLevels_f) G b0 [.int t] [] sz "java/lang/IllegalArgumentException" (fun (_ : Unit) => True) (fun (_ : Unit) => []) := by
  refine CTX.go (by decide) (Nat.le_of_ble_eq_true rfl) (fun p e s m below meth c A ls AR QQ hx hb hr hlk hml hown hnm hts hE hA hAb hsz hP hD hS hl hexT hQQ => ?_)
  have hK := hE.1
  have hown : s.vm.findClass RX1 = some m.cls := hown
  have hl : lv_has ls 1 [(0, .int t)] := hl
  clear hsz
  refine lv_iload_n hx hb dX1_needLevels_0 rfl (lv_at hl 0 rfl) ?_
  refine lv_iconst (v := nI 1) hx hb dX1_needLevels_1 (by decide) ?_
  refine lv_iconst (v := nI 3) hx hb dX1_needLevels_2 (by decide) ?_
  refine fin_i (ws' := (fun (_ : Unit) => [])) hA hS hP hD [] rfl [] (fun _ => rfl) (by decide) (run_S (As := [.int t, .int (nI 1), .int (nI 3)]) (rest := []) (n9 := 3) hx hb hml hown hts hE hAb hl.1 hS hP hD [] rfl (by decide) (t_X1_in l G b0 _ t (nI 1) (nI 3) ) (lw_S q1363 q1019 q106 q1020) ⟨by decide, by decide, by decide +kernel⟩ ⟨Nat.le_of_ble_eq_true rfl, Nat.le_of_ble_eq_true rfl⟩ ⟨by first | exact Nat.le_of_ble_eq_true rfl | (simp only [rm_X1_needLevels_f, rm_X1_in]; omega), by first | exact Nat.le_of_ble_eq_true rfl | (simp only [rm_X1_needLevels_f, rm_X1_in]; omega)⟩ dX1_needLevels_3 (Nat.le_of_ble_eq_true rfl) rfl rfl) (fun r_1 u_1 H locs h_1 hP hD hS => ?_)
  have hP : va_P G.1 vwCl [] _ := hP
  have hD : va_D A [] := hD
  have h_1 : r_1 = (bI (inB t (nI 1) (nI 3))) := h_1
  rw [h_1]
  refine W.eq (g2 := F0 m 6 ls [.int (bI false)]) (by rw [htt]) ?_
  have hF_2 := fr_free (wc := []) [] rfl hA hS hD
  refine fin_x (ws' := (fun (_ : Unit) => [])) hS hF_2 (run_SX (As := [.int (bI false)]) (rest := []) (n9 := 1) hx hb hml hown hts hE hAb hl.1 hS hP hD [] rfl (by decide) (t_X1_need_f l G b0 _  (by omega)) (lw_S q1375 q1376 q106 q1377) ⟨by decide, by decide, by decide +kernel⟩ ⟨Nat.le_of_ble_eq_true rfl, Nat.le_of_ble_eq_true rfl⟩ ⟨by first | exact Nat.le_of_ble_eq_true rfl | (simp only [rm_X1_needLevels_f, rm_X1_need_f, rm_X1_in]; omega), by first | exact Nat.le_of_ble_eq_true rfl | (simp only [rm_X1_needLevels_f, rm_X1_need_f, rm_X1_in]; omega)⟩ dX1_needLevels_6 (Nat.le_of_ble_eq_true rfl) rfl rfl) (fun _ H1_ hk_ hp_ hd_ => fr_sel (ws := []) (wc := []) (ws' := []) [] [] rfl rfl (by decide) hP hD hk_ hF_2 hp_ hd_) (fun ce9 q9 u_2 H locs h_2 hP hD hS hce9 hcv9 hcl9 => ?_)
  have hP : va_P G.1 vwCl [] _ := hP
  have hD : va_D A [] := hD
  rw [hQQ]
  exact rt_x hexT hlk (()) hP hD hS hce9 hcv9 hcl9 (by first | exact Nat.le_of_ble_eq_true rfl | (simp only [rm_X1_needLevels_f, rm_X1_in, rm_X1_need_f]; omega) | omega) (by first | exact Nat.le_of_ble_eq_true rfl | (simp only [rm_X1_needLevels_f, rm_X1_in, rm_X1_need_f]; omega) | omega) trivial
def rm_X1_cellBy_t : Room := ({ frames := 1, cells := 0, slots := 0, locals := 30 } : Room)
set_option maxHeartbeats 400000 in
set_option maxRecDepth 100000 in
theorem t_X1_cellBy_t (l : Launch) (G : GG) (b0 sz : Nat) (r c_ : Nat) (hr_ : r < 8) (hc_ : c_ < 8) : CT l yX1_cellBy cX1_cellBy 2 (some FieldType.int) (rm_X1_cellBy_t) G b0 [.int (nI r), .int (nI c_)] [] sz (Ri G (fun (r_ : Int32) (_ : Unit) => r_ = nI (8 * r + c_)) (fun (_ : Unit) => [])) := by
  refine CT.go (by decide) (Nat.le_of_ble_eq_true rfl) (fun p e s m below meth c A ls AR QQ hx hb hr hlk hml hown hnm hts hE hA hAb hsz hP hD hS hl hQQ => ?_)
  have hK := hE.1
  have hown : s.vm.findClass RX1 = some m.cls := hown
  have hl : lv_has ls 2 [(0, .int (nI r)), (1, .int (nI c_))] := hl
  clear hsz
  refine lv_iload_n hx hb dX1_cellBy_0 rfl (lv_at hl 0 rfl) ?_
  refine lv_iconst (v := nI 0) hx hb dX1_cellBy_1 (by decide) ?_
  refine lv_bipush (v := nI 7) hx hb dX1_cellBy_2 (by decide) ?_
  refine fin_i (ws' := (fun (_ : Unit) => [])) hA hS hP hD [] rfl [] (fun _ => rfl) (by decide) (run_S (As := [.int (nI r), .int (nI 0), .int (nI 7)]) (rest := []) (n9 := 3) hx hb hml hown hts hE hAb hl.1 hS hP hD [] rfl (by decide) (t_X1_in l G b0 _ (nI r) (nI 0) (nI 7) ) (lw_S q1363 q1019 q106 q1020) ⟨by decide, by decide, by decide +kernel⟩ ⟨Nat.le_of_ble_eq_true rfl, Nat.le_of_ble_eq_true rfl⟩ ⟨by first | exact Nat.le_of_ble_eq_true rfl | (simp only [rm_X1_cellBy_t, rm_X1_in]; omega), by first | exact Nat.le_of_ble_eq_true rfl | (simp only [rm_X1_cellBy_t, rm_X1_in]; omega)⟩ dX1_cellBy_4 (Nat.le_of_ble_eq_true rfl) rfl rfl) (fun r_1 u_1 H locs h_1 hP hD hS => ?_)
  have hP : va_P G.1 vwCl [] _ := hP
  have hD : va_D A [] := hD
  have h_1 : r_1 = (bI (inB (nI r) (nI 0) (nI 7))) := h_1
  rw [h_1]
  refine B_if_eq (tgt := 24) hx hb dX1_cellBy_7 (by decide) (fun c_7 => ?_) (fun c_7 => ?_)
  · skip
    exfalso; exact absurd ((show inB (nI r) (nI 0) (nI 7) = true by rw [inB_nat (by omega) (by decide) (by decide)]; exact decide_eq_true (by omega)).symm.trans c_7) (by decide)
  · skip
    refine lv_iload_n hx hb dX1_cellBy_10 rfl (lv_at hl 1 rfl) ?_
    refine lv_iconst (v := nI 0) hx hb dX1_cellBy_11 (by decide) ?_
    refine lv_bipush (v := nI 7) hx hb dX1_cellBy_12 (by decide) ?_
    refine fin_i (ws' := (fun (_ : Unit) => [])) hA hS hP hD [] rfl [] (fun _ => rfl) (by decide) (run_S (As := [.int (nI c_), .int (nI 0), .int (nI 7)]) (rest := []) (n9 := 3) hx hb hml hown hts hE hAb hl.1 hS hP hD [] rfl (by decide) (t_X1_in l G b0 _ (nI c_) (nI 0) (nI 7) ) (lw_S q1363 q1019 q106 q1020) ⟨by decide, by decide, by decide +kernel⟩ ⟨Nat.le_of_ble_eq_true rfl, Nat.le_of_ble_eq_true rfl⟩ ⟨by first | exact Nat.le_of_ble_eq_true rfl | (simp only [rm_X1_cellBy_t, rm_X1_in]; omega), by first | exact Nat.le_of_ble_eq_true rfl | (simp only [rm_X1_cellBy_t, rm_X1_in]; omega)⟩ dX1_cellBy_14 (Nat.le_of_ble_eq_true rfl) rfl rfl) (fun r_2 u_2 H locs h_2 hP hD hS => ?_)
    have hP : va_P G.1 vwCl [] _ := hP
    have hD : va_D A [] := hD
    have h_2 : r_2 = (bI (inB (nI c_) (nI 0) (nI 7))) := h_2
    rw [h_2]
    refine B_if_eq (tgt := 24) hx hb dX1_cellBy_17 (by decide) (fun c_17 => ?_) (fun c_17 => ?_)
    · skip
      exfalso; exact absurd ((show inB (nI c_) (nI 0) (nI 7) = true by rw [inB_nat (by omega) (by decide) (by decide)]; exact decide_eq_true (by omega)).symm.trans c_17) (by decide)
    · skip
      refine lv_iconst (v := nI 1) hx hb dX1_cellBy_20 (by decide) ?_
      refine lv_goto (tgt := 25) hx hb dX1_cellBy_21 (by decide) ?_
      refine W.eq (g2 := F0 m 25 ls [.int (bI true)]) rfl ?_
      refine fin_v (ws' := (fun (_ : Unit) => [])) hA hS hP hD [] rfl [] (fun _ => rfl) (by decide) (run_S (As := [.int (bI true)]) (rest := []) (n9 := 1) hx hb hml hown hts hE hAb hl.1 hS hP hD [] rfl (by decide) (t_X1_needIndex_t l G b0 _  ) (lw_S q1364 q1365 q106 q1366) ⟨by decide, by decide, by decide +kernel⟩ ⟨Nat.le_of_ble_eq_true rfl, Nat.le_of_ble_eq_true rfl⟩ ⟨by first | exact Nat.le_of_ble_eq_true rfl | (simp only [rm_X1_cellBy_t, rm_X1_needIndex_t, rm_X1_in]; omega), by first | exact Nat.le_of_ble_eq_true rfl | (simp only [rm_X1_cellBy_t, rm_X1_needIndex_t, rm_X1_in]; omega)⟩ dX1_cellBy_25 (Nat.le_of_ble_eq_true rfl) rfl rfl) (fun u_3 H locs h_3 hP hD hS => ?_)
      have hP : va_P G.1 vwCl [] _ := hP
      have hD : va_D A [] := hD
      refine lv_bipush (v := nI 8) hx hb dX1_cellBy_28 (by decide) ?_
      refine lv_iload_n hx hb dX1_cellBy_30 rfl (lv_at hl 0 rfl) ?_
      refine N_imul hx hb dX1_cellBy_31 ?_
      refine lv_iload_n hx hb dX1_cellBy_32 rfl (lv_at hl 1 rfl) ?_
      refine N_iadd hx hb dX1_cellBy_33 ?_
      rw [hQQ]
      exact rt_i hx hb hr hlk  ((())) dX1_cellBy_34 hP hD hS (by first | exact Nat.le_of_ble_eq_true rfl | (simp only [rm_X1_cellBy_t, rm_X1_in, rm_X1_needIndex_t]; omega) | omega) (by first | exact Nat.le_of_ble_eq_true rfl | (simp only [rm_X1_cellBy_t, rm_X1_in, rm_X1_needIndex_t]; omega) | omega) (by rfl)
def rm_X1_cellBy_f : Room := ({ frames := 10, cells := 1, slots := 6, locals := 160 } : Room)
set_option maxHeartbeats 400000 in
set_option maxRecDepth 100000 in
theorem t_X1_cellBy_f (l : Launch) (G : GG) (b0 sz : Nat) (r c_ : Int32) (htr : l.stackTraces = false) (hce : isCe r c_ = false) : CTX l yX1_cellBy cX1_cellBy 2 (some FieldType.int) (rm_X1_cellBy_f) G b0 [.int r, .int c_] [] sz "java/lang/IndexOutOfBoundsException" (fun (_ : Unit) => True) (fun (_ : Unit) => []) := by
  refine CTX.go (by decide) (Nat.le_of_ble_eq_true rfl) (fun p e s m below meth c A ls AR QQ hx hb hr hlk hml hown hnm hts hE hA hAb hsz hP hD hS hl hexT hQQ => ?_)
  have hK := hE.1
  have hown : s.vm.findClass RX1 = some m.cls := hown
  have hl : lv_has ls 2 [(0, .int r), (1, .int c_)] := hl
  clear hsz
  refine lv_iload_n hx hb dX1_cellBy_0 rfl (lv_at hl 0 rfl) ?_
  refine lv_iconst (v := nI 0) hx hb dX1_cellBy_1 (by decide) ?_
  refine lv_bipush (v := nI 7) hx hb dX1_cellBy_2 (by decide) ?_
  refine fin_i (ws' := (fun (_ : Unit) => [])) hA hS hP hD [] rfl [] (fun _ => rfl) (by decide) (run_S (As := [.int r, .int (nI 0), .int (nI 7)]) (rest := []) (n9 := 3) hx hb hml hown hts hE hAb hl.1 hS hP hD [] rfl (by decide) (t_X1_in l G b0 _ r (nI 0) (nI 7) ) (lw_S q1363 q1019 q106 q1020) ⟨by decide, by decide, by decide +kernel⟩ ⟨Nat.le_of_ble_eq_true rfl, Nat.le_of_ble_eq_true rfl⟩ ⟨by first | exact Nat.le_of_ble_eq_true rfl | (simp only [rm_X1_cellBy_f, rm_X1_in]; omega), by first | exact Nat.le_of_ble_eq_true rfl | (simp only [rm_X1_cellBy_f, rm_X1_in]; omega)⟩ dX1_cellBy_4 (Nat.le_of_ble_eq_true rfl) rfl rfl) (fun r_1 u_1 H locs h_1 hP hD hS => ?_)
  have hP : va_P G.1 vwCl [] _ := hP
  have hD : va_D A [] := hD
  have h_1 : r_1 = (bI (inB r (nI 0) (nI 7))) := h_1
  rw [h_1]
  refine B_if_eq (tgt := 24) hx hb dX1_cellBy_7 (by decide) (fun c_7 => ?_) (fun c_7 => ?_)
  · skip
    refine lv_iconst (v := nI 0) hx hb dX1_cellBy_24 (by decide) ?_
    refine W.eq (g2 := F0 m 25 ls [.int (bI false)]) rfl ?_
    have hF_2 := fr_free (wc := []) [] rfl hA hS hD
    refine fin_x (ws' := (fun (_ : Unit) => [])) hS hF_2 (run_SX (As := [.int (bI false)]) (rest := []) (n9 := 1) hx hb hml hown hts hE hAb hl.1 hS hP hD [] rfl (by decide) (t_X1_needIndex_f l G b0 _  (by omega)) (lw_S q1364 q1365 q106 q1366) ⟨by decide, by decide, by decide +kernel⟩ ⟨Nat.le_of_ble_eq_true rfl, Nat.le_of_ble_eq_true rfl⟩ ⟨by first | exact Nat.le_of_ble_eq_true rfl | (simp only [rm_X1_cellBy_f, rm_X1_needIndex_f, rm_X1_in]; omega), by first | exact Nat.le_of_ble_eq_true rfl | (simp only [rm_X1_cellBy_f, rm_X1_needIndex_f, rm_X1_in]; omega)⟩ dX1_cellBy_25 (Nat.le_of_ble_eq_true rfl) rfl rfl) (fun _ H1_ hk_ hp_ hd_ => fr_sel (ws := []) (wc := []) (ws' := []) [] [] rfl rfl (by decide) hP hD hk_ hF_2 hp_ hd_) (fun ce9 q9 u_2 H locs h_2 hP hD hS hce9 hcv9 hcl9 => ?_)
    have hP : va_P G.1 vwCl [] _ := hP
    have hD : va_D A [] := hD
    rw [hQQ]
    exact rt_x hexT hlk (()) hP hD hS hce9 hcv9 hcl9 (by first | exact Nat.le_of_ble_eq_true rfl | (simp only [rm_X1_cellBy_f, rm_X1_in, rm_X1_needIndex_f]; omega) | omega) (by first | exact Nat.le_of_ble_eq_true rfl | (simp only [rm_X1_cellBy_f, rm_X1_in, rm_X1_needIndex_f]; omega) | omega) trivial
  · skip
    refine lv_iload_n hx hb dX1_cellBy_10 rfl (lv_at hl 1 rfl) ?_
    refine lv_iconst (v := nI 0) hx hb dX1_cellBy_11 (by decide) ?_
    refine lv_bipush (v := nI 7) hx hb dX1_cellBy_12 (by decide) ?_
    refine fin_i (ws' := (fun (_ : Unit) => [])) hA hS hP hD [] rfl [] (fun _ => rfl) (by decide) (run_S (As := [.int c_, .int (nI 0), .int (nI 7)]) (rest := []) (n9 := 3) hx hb hml hown hts hE hAb hl.1 hS hP hD [] rfl (by decide) (t_X1_in l G b0 _ c_ (nI 0) (nI 7) ) (lw_S q1363 q1019 q106 q1020) ⟨by decide, by decide, by decide +kernel⟩ ⟨Nat.le_of_ble_eq_true rfl, Nat.le_of_ble_eq_true rfl⟩ ⟨by first | exact Nat.le_of_ble_eq_true rfl | (simp only [rm_X1_cellBy_f, rm_X1_in, rm_X1_needIndex_f]; omega), by first | exact Nat.le_of_ble_eq_true rfl | (simp only [rm_X1_cellBy_f, rm_X1_in, rm_X1_needIndex_f]; omega)⟩ dX1_cellBy_14 (Nat.le_of_ble_eq_true rfl) rfl rfl) (fun r_3 u_3 H locs h_3 hP hD hS => ?_)
    have hP : va_P G.1 vwCl [] _ := hP
    have hD : va_D A [] := hD
    have h_3 : r_3 = (bI (inB c_ (nI 0) (nI 7))) := h_3
    rw [h_3]
    refine B_if_eq (tgt := 24) hx hb dX1_cellBy_17 (by decide) (fun c_17 => ?_) (fun c_17 => ?_)
    · skip
      refine lv_iconst (v := nI 0) hx hb dX1_cellBy_24 (by decide) ?_
      refine W.eq (g2 := F0 m 25 ls [.int (bI false)]) rfl ?_
      have hF_4 := fr_free (wc := []) [] rfl hA hS hD
      refine fin_x (ws' := (fun (_ : Unit) => [])) hS hF_4 (run_SX (As := [.int (bI false)]) (rest := []) (n9 := 1) hx hb hml hown hts hE hAb hl.1 hS hP hD [] rfl (by decide) (t_X1_needIndex_f l G b0 _  (by omega)) (lw_S q1364 q1365 q106 q1366) ⟨by decide, by decide, by decide +kernel⟩ ⟨Nat.le_of_ble_eq_true rfl, Nat.le_of_ble_eq_true rfl⟩ ⟨by first | exact Nat.le_of_ble_eq_true rfl | (simp only [rm_X1_cellBy_f, rm_X1_needIndex_f, rm_X1_in]; omega), by first | exact Nat.le_of_ble_eq_true rfl | (simp only [rm_X1_cellBy_f, rm_X1_needIndex_f, rm_X1_in]; omega)⟩ dX1_cellBy_25 (Nat.le_of_ble_eq_true rfl) rfl rfl) (fun _ H1_ hk_ hp_ hd_ => fr_sel (ws := []) (wc := []) (ws' := []) [] [] rfl rfl (by decide) hP hD hk_ hF_4 hp_ hd_) (fun ce9 q9 u_4 H locs h_4 hP hD hS hce9 hcv9 hcl9 => ?_)
      have hP : va_P G.1 vwCl [] _ := hP
      have hD : va_D A [] := hD
      rw [hQQ]
      exact rt_x hexT hlk (()) hP hD hS hce9 hcv9 hcl9 (by first | exact Nat.le_of_ble_eq_true rfl | (simp only [rm_X1_cellBy_f, rm_X1_in, rm_X1_needIndex_f]; omega) | omega) (by first | exact Nat.le_of_ble_eq_true rfl | (simp only [rm_X1_cellBy_f, rm_X1_in, rm_X1_needIndex_f]; omega) | omega) trivial
    · skip
      refine lv_iconst (v := nI 1) hx hb dX1_cellBy_20 (by decide) ?_
      refine lv_goto (tgt := 25) hx hb dX1_cellBy_21 (by decide) ?_
      exact absurd (show isCe r c_ = true by unfold isCe; rw [c_7, c_17]; rfl) (by rw [hce]; decide)
