/-! ===== the law: parts and back ===== -/
theorem ti_add {x y : Int32} (h : -100000 ≤ x.toInt + y.toInt ∧ x.toInt + y.toInt ≤ 100000) : (x + y).toInt = x.toInt + y.toInt := by
  rw [Int32.toInt_add]
  exact Int.bmod_eq_of_le (by omega) (by omega)
theorem ti_sub {x y : Int32} (h : -100000 ≤ x.toInt - y.toInt ∧ x.toInt - y.toInt ≤ 100000) : (x - y).toInt = x.toInt - y.toInt := by
  rw [Int32.toInt_sub]
  exact Int.bmod_eq_of_le (by omega) (by omega)
theorem shr1 (x : Int32) : (x >>> (nI 1 &&& 31)).toInt = x.toInt / 2 := by
  rw [pk_shr x _ 1 (by decide), Int.shiftRight_eq_div_pow]
  rfl
def bd9 (v : Int32) : Prop := -1000 ≤ v.toInt ∧ v.toInt ≤ 1000
theorem sum_i {a b : Int32} (ha : bd9 a) (hb : bd9 b) : (sumO a b).toInt = (a.toInt + b.toInt) / 2 := by
  unfold bd9 at ha hb
  unfold sumO
  rw [shr1, ti_add (by omega)]
theorem up_i {a b : Int32} (ha : bd9 a) (hb : bd9 b) : (((a - b) + nI 1) >>> (nI 1 &&& 31)).toInt = (a.toInt - b.toInt + 1) / 2 := by
  unfold bd9 at ha hb
  have h1 : (nI 1).toInt = 1 := rfl
  have h2 := ti_sub (x := a) (y := b) (by omega)
  rw [shr1, ti_add (by omega), h2, h1]
theorem one_a {a b : Int32} (ha : bd9 a) (hb : bd9 b) : oneO (sumO a b) (a - b) 0 = a := by
  have h1 := sum_i ha hb
  have h2 := up_i ha hb
  unfold bd9 at ha hb
  unfold oneO
  rw [if_neg (by decide)]
  apply Int32.toInt_inj.mp
  rw [ti_add (by omega), h1, h2]
  omega
theorem one_b {a b : Int32} (ha : bd9 a) (hb : bd9 b) : oneO (sumO a b) (a - b) 1 = b := by
  have h1 := sum_i ha hb
  have h2 := up_i ha hb
  unfold bd9 at ha hb
  have h3 := ti_sub (x := a) (y := b) (by omega)
  unfold oneO
  rw [if_pos rfl]
  apply Int32.toInt_inj.mp
  have h4 := ti_add (x := sumO a b) (y := ((a - b) + nI 1) >>> (nI 1 &&& 31)) (by omega)
  rw [ti_sub (by omega), h4, h1, h2, h3]
  omega
theorem one_w {a b : Int32} {w : Nat} (hw : w < 2) (ha : bd9 a) (hb : bd9 b) : oneO (sumO a b) (a - b) w = if w = 0 then a else b := by
  have : w = 0 ∨ w = 1 := by omega
  rcases this with rfl | rfl
  · exact one_a ha hb
  · exact one_b ha hb
/-! closed forms -/
theorem put8 {row line : Nat → Int32} {o : Nat} (ho : o < 8) : ∀ k j, putF row line o 8 k j = if j % 8 = o ∧ j / 8 < k then line (j / 8) else row j := by
  intro k
  induction k with
  | zero => intro j; rw [if_neg (by omega)]; rfl
  | succ k ih =>
    intro j
    show upd (putF row line o 8 k) (o + k * 8) (line k) j = _
    unfold upd
    by_cases e : j = o + k * 8
    · rw [if_pos e, if_pos (by omega), show j / 8 = k by omega]
    · rw [if_neg e, ih j]
      by_cases c : j % 8 = o ∧ j / 8 < k
      · rw [if_pos c, if_pos (by omega)]
      · rw [if_neg c, if_neg (by omega)]
theorem put1 {row line : Nat → Int32} {r : Nat} : ∀ k, k ≤ 8 → ∀ j, putF row line (8 * r) 1 k j = if j / 8 = r ∧ j % 8 < k then line (j % 8) else row j := by
  intro k
  induction k with
  | zero => intro _ j; rw [if_neg (by omega)]; rfl
  | succ k ih =>
    intro hk j
    show upd (putF row line (8 * r) 1 k) (8 * r + k * 1) (line k) j = _
    unfold upd
    by_cases e : j = 8 * r + k * 1
    · rw [if_pos e, if_pos (by omega), show j % 8 = k by omega]
    · rw [if_neg e, ih (by omega) j]
      by_cases c : j / 8 = r ∧ j % 8 < k
      · rw [if_pos c, if_pos (by omega)]
      · rw [if_neg c, if_neg (by omega)]
theorem splL_c {f g : Nat → Int32} {o t h x : Nat} (h1 : f (o + 2 * x * t) = g (o + 2 * x * t)) (h2 : f (o + (2 * x + 1) * t) = g (o + (2 * x + 1) * t)) (h3 : f (o + 2 * (x - h) * t) = g (o + 2 * (x - h) * t)) (h4 : f (o + (2 * (x - h) + 1) * t) = g (o + (2 * (x - h) + 1) * t)) : splL f o t h x = splL g o t h x := by
  unfold splL
  rw [h1, h2, h3, h4]
theorem splL_d {f g : Nat → Int32} {o t h x : Nat} (h1 : x < h → f (o + 2 * x * t) = g (o + 2 * x * t) ∧ f (o + (2 * x + 1) * t) = g (o + (2 * x + 1) * t)) (h3 : ¬ x < h → f (o + 2 * (x - h) * t) = g (o + 2 * (x - h) * t) ∧ f (o + (2 * (x - h) + 1) * t) = g (o + (2 * (x - h) + 1) * t)) : splL f o t h x = splL g o t h x := by
  unfold splL
  by_cases c : x < h
  · rw [if_pos c, if_pos c, (h1 c).1, (h1 c).2]
  · rw [if_neg c, if_neg c, (h3 c).1, (h3 c).2]
theorem colS_c {f : Nat → Int32} {n : Nat} : ∀ k, k ≤ 8 → ∀ j, colS f n k j = if j % 8 < k ∧ j / 8 < n then splL f (j % 8) 8 (n / 2) (j / 8) else f j := by
  intro k
  induction k with
  | zero => intro _ j; rw [if_neg (by omega)]; rfl
  | succ k ih =>
    intro hk j
    have g : ∀ m, colS f n k (k + m * 8) = f (k + m * 8) := fun m => by rw [ih (by omega) _, if_neg (by omega)]
    show putF (colS f n k) (splL (colS f n k) k 8 (n / 2)) k 8 n j = _
    rw [put8 (by omega) n j, splL_c (g := f) (g _) (g _) (g _) (g _), ih (by omega) j]
    by_cases c : j % 8 = k ∧ j / 8 < n
    · rw [if_pos c, if_pos (by omega), c.1]
    · rw [if_neg c]
      by_cases d : j % 8 < k ∧ j / 8 < n
      · rw [if_pos d, if_pos (by omega)]
      · rw [if_neg d, if_neg (by omega)]
theorem rowS_c {f : Nat → Int32} {n : Nat} (hn : n = 8 ∨ n = 4 ∨ n = 2) : ∀ k, k ≤ 8 → ∀ j, rowS f n k j = if j / 8 < k ∧ j % 8 < n then splL f (8 * (j / 8)) 1 (n / 2) (j % 8) else f j := by
  intro k
  induction k with
  | zero => intro _ j; rw [if_neg (by omega)]; rfl
  | succ k ih =>
    intro hk j
    have g : ∀ m, m < 8 → rowS f n k (8 * k + m) = f (8 * k + m) := fun m hm => by rw [ih (by omega) _, if_neg (by omega)]
    show putF (rowS f n k) (splL (rowS f n k) (8 * k) 1 (n / 2)) (8 * k) 1 n j = _
    rw [put1 n (by omega) j, ih (by omega) j]
    by_cases c : j / 8 = k ∧ j % 8 < n
    · rw [if_pos c, if_pos (by omega), c.1]
      exact splL_d (fun z => ⟨g _ (by omega), g _ (by omega)⟩) (fun z => ⟨g _ (by omega), g _ (by omega)⟩)
    · rw [if_neg c]
      by_cases d : j / 8 < k ∧ j % 8 < n
      · rw [if_pos d, if_pos (by omega)]
      · rw [if_neg d, if_neg (by omega)]
theorem colJ_c {f : Nat → Int32} {n : Nat} : ∀ k, k ≤ 8 → ∀ j, colJ f n k j = if j % 8 < k ∧ j / 8 < n then joiL f (j % 8) 8 (n / 2) (j / 8) else f j := by
  intro k
  induction k with
  | zero => intro _ j; rw [if_neg (by omega)]; rfl
  | succ k ih =>
    intro hk j
    have g : ∀ m, colJ f n k (k + m * 8) = f (k + m * 8) := fun m => by rw [ih (by omega) _, if_neg (by omega)]
    show putF (colJ f n k) (joiL (colJ f n k) k 8 (n / 2)) k 8 n j = _
    have e : ∀ x, joiL (colJ f n k) k 8 (n / 2) x = joiL f k 8 (n / 2) x := fun x => by
      unfold joiL
      rw [g, g]
    rw [put8 (by omega) n j, e, ih (by omega) j]
    by_cases c : j % 8 = k ∧ j / 8 < n
    · rw [if_pos c, if_pos (by omega), c.1]
    · rw [if_neg c]
      by_cases d : j % 8 < k ∧ j / 8 < n
      · rw [if_pos d, if_pos (by omega)]
      · rw [if_neg d, if_neg (by omega)]
theorem rowJ_c {f : Nat → Int32} {n : Nat} (hn : n = 8 ∨ n = 4 ∨ n = 2) : ∀ k, k ≤ 8 → ∀ j, rowJ f n k j = if j / 8 < k ∧ j % 8 < n then joiL f (8 * (j / 8)) 1 (n / 2) (j % 8) else f j := by
  intro k
  induction k with
  | zero => intro _ j; rw [if_neg (by omega)]; rfl
  | succ k ih =>
    intro hk j
    have g : ∀ m, m < 8 → rowJ f n k (8 * k + m) = f (8 * k + m) := fun m hm => by rw [ih (by omega) _, if_neg (by omega)]
    show putF (rowJ f n k) (joiL (rowJ f n k) (8 * k) 1 (n / 2)) (8 * k) 1 n j = _
    rw [put1 n (by omega) j, ih (by omega) j]
    by_cases c : j / 8 = k ∧ j % 8 < n
    · rw [if_pos c, if_pos (by omega), c.1]
      unfold joiL
      rw [g _ (by omega), g _ (by omega)]
    · rw [if_neg c]
      by_cases d : j / 8 < k ∧ j % 8 < n
      · rw [if_pos d, if_pos (by omega)]
      · rw [if_neg d, if_neg (by omega)]
theorem colJS {g : Nat → Int32} {n : Nat} (hn : n = 8 ∨ n = 4 ∨ n = 2) (hb : ∀ j, j % 8 < n → j / 8 < n → bd9 (g j)) : colJ (colS g n n) n n = g := by
  funext j
  rw [colJ_c n (by omega) j]
  by_cases c : j % 8 < n ∧ j / 8 < n
  · rw [if_pos c]
    unfold joiL
    rw [colS_c n (by omega), colS_c n (by omega), if_pos (by omega), if_pos (by omega)]
    unfold splL
    rw [show (j % 8 + j / 8 / 2 * 8) / 8 = j / 8 / 2 by omega, show (j % 8 + (n / 2 + j / 8 / 2) * 8) / 8 = n / 2 + j / 8 / 2 by omega, show (j % 8 + j / 8 / 2 * 8) % 8 = j % 8 by omega, show (j % 8 + (n / 2 + j / 8 / 2) * 8) % 8 = j % 8 by omega, if_pos (show j / 8 / 2 < n / 2 by omega), if_neg (show ¬ n / 2 + j / 8 / 2 < n / 2 by omega), show n / 2 + j / 8 / 2 - n / 2 = j / 8 / 2 by omega]
    rw [one_w (by omega) (hb _ (by omega) (by omega)) (hb _ (by omega) (by omega))]
    by_cases d : j / 8 % 2 = 0
    · rw [if_pos d]
      congr 1
      omega
    · rw [if_neg d]
      congr 1
      omega
  · rw [if_neg c, colS_c n (by omega) j, if_neg c]
theorem rowJS {g : Nat → Int32} {n : Nat} (hn : n = 8 ∨ n = 4 ∨ n = 2) (hb : ∀ j, j % 8 < n → j / 8 < n → bd9 (g j)) : rowJ (rowS g n n) n n = g := by
  funext j
  rw [rowJ_c hn n (by omega) j]
  by_cases c : j / 8 < n ∧ j % 8 < n
  · rw [if_pos c]
    unfold joiL
    rw [rowS_c hn n (by omega), rowS_c hn n (by omega), if_pos (by omega), if_pos (by omega)]
    unfold splL
    rw [show (8 * (j / 8) + j % 8 / 2 * 1) % 8 = j % 8 / 2 by omega, show (8 * (j / 8) + (n / 2 + j % 8 / 2) * 1) % 8 = n / 2 + j % 8 / 2 by omega, show (8 * (j / 8) + j % 8 / 2 * 1) / 8 = j / 8 by omega, show (8 * (j / 8) + (n / 2 + j % 8 / 2) * 1) / 8 = j / 8 by omega, if_pos (show j % 8 / 2 < n / 2 by omega), if_neg (show ¬ n / 2 + j % 8 / 2 < n / 2 by omega), show n / 2 + j % 8 / 2 - n / 2 = j % 8 / 2 by omega]
    rw [one_w (by omega) (hb _ (by omega) (by omega)) (hb _ (by omega) (by omega))]
    by_cases d : j % 8 % 2 = 0
    · rw [if_pos d]
      congr 1
      omega
    · rw [if_neg d]
      congr 1
      omega
  · rw [if_neg c, rowS_c hn n (by omega) j, if_neg c]
/-! bounds -/
def sq9 (n : Nat) (f : Nat → Int32) : Prop := ∀ j, j % 8 < n → j / 8 < n → 0 ≤ (f j).toInt ∧ (f j).toInt ≤ 255
theorem rowS_b {f : Nat → Int32} {n : Nat} (hn : n = 8 ∨ n = 4 ∨ n = 2) (h : sq9 n f) : ∀ j, j % 8 < n → j / 8 < n → -255 ≤ (rowS f n n j).toInt ∧ (rowS f n n j).toInt ≤ 255 ∧ (j % 8 < n / 2 → 0 ≤ (rowS f n n j).toInt) := by
  intro j hc hr
  rw [rowS_c hn n (by omega) j, if_pos ⟨hr, hc⟩]
  unfold splL
  by_cases c : j % 8 < n / 2
  · rw [if_pos c]
    have a := h (8 * (j / 8) + 2 * (j % 8) * 1) (by omega) (by omega)
    have b := h (8 * (j / 8) + (2 * (j % 8) + 1) * 1) (by omega) (by omega)
    rw [sum_i ⟨by omega, by omega⟩ ⟨by omega, by omega⟩]
    omega
  · rw [if_neg c]
    have a := h (8 * (j / 8) + 2 * (j % 8 - n / 2) * 1) (by omega) (by omega)
    have b := h (8 * (j / 8) + (2 * (j % 8 - n / 2) + 1) * 1) (by omega) (by omega)
    rw [ti_sub (by omega)]
    omega
theorem S_b {f : Nat → Int32} {n : Nat} (hn : n = 8 ∨ n = 4 ∨ n = 2) (h : sq9 n f) : sq9 (n / 2) (colS (rowS f n n) n n) ∧ ∀ j, j % 8 < n → j / 8 < n → -510 ≤ (colS (rowS f n n) n n j).toInt ∧ (colS (rowS f n n) n n j).toInt ≤ 510 := by
  have key : ∀ j, j % 8 < n → j / 8 < n → -510 ≤ (colS (rowS f n n) n n j).toInt ∧ (colS (rowS f n n) n n j).toInt ≤ 510 ∧ (j % 8 < n / 2 → j / 8 < n / 2 → 0 ≤ (colS (rowS f n n) n n j).toInt ∧ (colS (rowS f n n) n n j).toInt ≤ 255) := by
    intro j hc hr
    rw [colS_c n (by omega) j, if_pos ⟨hc, hr⟩]
    unfold splL
    by_cases c : j / 8 < n / 2
    · rw [if_pos c]
      have a := rowS_b hn h (j % 8 + 2 * (j / 8) * 8) (by omega) (by omega)
      have b := rowS_b hn h (j % 8 + (2 * (j / 8) + 1) * 8) (by omega) (by omega)
      rw [sum_i ⟨by omega, by omega⟩ ⟨by omega, by omega⟩]
      refine ⟨by omega, by omega, fun d _ => ?_⟩
      have a3 := a.2.2 (by omega)
      have b3 := b.2.2 (by omega)
      omega
    · rw [if_neg c]
      have a := rowS_b hn h (j % 8 + 2 * (j / 8 - n / 2) * 8) (by omega) (by omega)
      have b := rowS_b hn h (j % 8 + (2 * (j / 8 - n / 2) + 1) * 8) (by omega) (by omega)
      rw [ti_sub (by omega)]
      exact ⟨by omega, by omega, fun _ d => absurd d c⟩
  exact ⟨fun j a b => (key j (by omega) (by omega)).2.2 a b, fun j a b => ⟨(key j a b).1, (key j a b).2.1⟩⟩
theorem sz_half {i : Nat} (h : i < 3) : szL i / 2 = szL (i + 1) := (show ∀ i, i < 3 → szL i / 2 = szL (i + 1) by decide) i h
theorem sp_b {st : Nat → Int32} (hs : ∀ k, k < 64 → isSh (st k) = true) : ∀ i, i ≤ 3 → sq9 (szL i) (splitP st i) ∧ bdP (splitP st i) := by
  intro i
  induction i with
  | zero =>
    intro _
    have e : szL 0 = 8 := rfl
    refine ⟨fun j a b => sh_int.mp (hs j (by rw [e] at b; omega)), fun x hx => ?_⟩
    have := sh_int.mp (hs x hx)
    show -510 ≤ (st x).toInt ∧ (st x).toInt ≤ 510
    omega
  | succ i ih =>
    intro hi
    obtain ⟨h1, h2⟩ := ih (by omega)
    obtain ⟨a, b⟩ := S_b (szL_in (by omega)) h1
    rw [sz_half (by omega)] at a
    refine ⟨a, fun x hx => ?_⟩
    show -510 ≤ (colS (rowS (splitP st i) (szL i) (szL i)) (szL i) (szL i) x).toInt ∧ _
    have hz := szL_in (i := i) (by omega)
    by_cases c : x % 8 < szL i ∧ x / 8 < szL i
    · exact b x c.1 c.2
    · have e : colS (rowS (splitP st i) (szL i) (szL i)) (szL i) (szL i) x = splitP st i x := by
        rw [colS_c (szL i) (by omega) x, if_neg c, rowS_c hz (szL i) (by omega) x, if_neg (by omega)]
      show -510 ≤ (colS (rowS (splitP st i) (szL i) (szL i)) (szL i) (szL i) x).toInt ∧ (colS (rowS (splitP st i) (szL i) (szL i)) (szL i) (szL i) x).toInt ≤ 510
      rw [e]
      exact h2 x hx
theorem bd_sh {L : Nat} {st : Nat → Int32} (h3 : L ≤ 3) (hs : ∀ k, k < 64 → isSh (st k) = true) : bdP (splitP st L) := (sp_b hs L h3).2
theorem back {st : Nat → Int32} (hs : ∀ k, k < 64 → isSh (st k) = true) : ∀ i, i ≤ 3 → joinP i (splitP st i) = st := by
  intro i
  induction i with
  | zero => intro _; rfl
  | succ i ih =>
    intro hi
    have h1 := (sp_b hs i (by omega)).1
    have hz := szL_in (i := i) (by omega)
    show joinP i (rowJ (colJ (colS (rowS (splitP st i) (szL i) (szL i)) (szL i) (szL i)) (szL i) (szL i)) (szL i) (szL i)) = st
    rw [colJS hz (fun j a b => by have := rowS_b hz h1 j a b; exact ⟨by omega, by omega⟩), rowJS hz (fun j a b => by have := h1 j a b; exact ⟨by omega, by omega⟩)]
    exact ih (by omega)
/-! only the 64 matter -/
theorem J_congr {f g : Nat → Int32} {n : Nat} (hn : n = 8 ∨ n = 4 ∨ n = 2) (h : ∀ j, j < 64 → f j = g j) : ∀ j, j < 64 → rowJ (colJ f n n) n n j = rowJ (colJ g n n) n n j := by
  have h1 : ∀ j, j < 64 → colJ f n n j = colJ g n n j := by
    intro j hj
    rw [colJ_c n (by omega) j, colJ_c n (by omega) j]
    by_cases c : j % 8 < n ∧ j / 8 < n
    · rw [if_pos c, if_pos c]
      unfold joiL
      rw [h _ (by omega), h _ (by omega)]
    · rw [if_neg c, if_neg c, h j hj]
  intro j hj
  rw [rowJ_c hn n (by omega) j, rowJ_c hn n (by omega) j]
  by_cases c : j / 8 < n ∧ j % 8 < n
  · rw [if_pos c, if_pos c]
    unfold joiL
    rw [h1 _ (by omega), h1 _ (by omega)]
  · rw [if_neg c, if_neg c, h1 j hj]
theorem join_congr : ∀ i, i ≤ 3 → ∀ f g : Nat → Int32, (∀ j, j < 64 → f j = g j) → ∀ j, j < 64 → joinP i f j = joinP i g j := by
  intro i
  induction i with
  | zero => intro _ f g h; exact h
  | succ i ih =>
    intro hi f g h
    exact ih (by omega) _ _ (J_congr (szL_in (by omega)) h)
theorem S_congr {f g : Nat → Int32} {n : Nat} (hn : n = 8 ∨ n = 4 ∨ n = 2) (h : ∀ j, j < 64 → f j = g j) : ∀ j, j < 64 → colS (rowS f n n) n n j = colS (rowS g n n) n n j := by
  have h1 : ∀ j, j < 64 → rowS f n n j = rowS g n n j := by
    intro j hj
    rw [rowS_c hn n (by omega) j, rowS_c hn n (by omega) j]
    by_cases c : j / 8 < n ∧ j % 8 < n
    · rw [if_pos c, if_pos c]
      exact splL_d (fun z => ⟨h _ (by omega), h _ (by omega)⟩) (fun z => ⟨h _ (by omega), h _ (by omega)⟩)
    · rw [if_neg c, if_neg c, h j hj]
  intro j hj
  rw [colS_c n (by omega) j, colS_c n (by omega) j]
  by_cases c : j % 8 < n ∧ j / 8 < n
  · rw [if_pos c, if_pos c]
    exact splL_d (fun z => ⟨h1 _ (by omega), h1 _ (by omega)⟩) (fun z => ⟨h1 _ (by omega), h1 _ (by omega)⟩)
  · rw [if_neg c, if_neg c, h1 j hj]
theorem split_congr {f g : Nat → Int32} (h : ∀ j, j < 64 → f j = g j) : ∀ i, i ≤ 3 → ∀ j, j < 64 → splitP f i j = splitP g i j := by
  intro i
  induction i with
  | zero => intro _; exact h
  | succ i ih => intro hi; exact S_congr (szL_in (by omega)) (ih (by omega))
theorem siz_pos {v : Int32} (h : -510 ≤ v.toInt ∧ v.toInt ≤ 510) (h0 : ¬ v = 0) : nI 0 < sizI v := by
  have e := siz_int h
  have : v.toInt ≠ 0 := fun z => h0 (Int32.toInt_inj.mp z)
  rw [Int32.lt_iff_toInt_lt, e]
  show (0 : Int) < _
  omega
theorem drp0 {L : Nat} {f : Nat → Int32} (h : bdP f) : ∀ j, j < 64 → drpA L (nI 0) f j = f j := by
  intro j hj
  unfold drpA
  refine if_neg ?_
  unfold crmB
  by_cases a : isDf L j = true
  · rw [if_pos a]
    by_cases b : f j = 0
    · rw [if_pos b]; decide
    · rw [if_neg b, if_pos (siz_pos (h j hj) b)]; decide
  · rw [if_neg a]; decide
theorem l_sum_0 : ∀ n, l_sum (fun _ => 0) n = 0 := by
  intro n
  induction n with
  | zero => rfl
  | succ n ih => show l_sum _ n + 0 = 0; rw [ih]; rfl
theorem e_c0 {L : Nat} {st : Nat → Int32} (h1 : 1 ≤ L) (h3 : L ≤ 3) (hs : ∀ k, k < 64 → isSh (st k) = true) : costI L (nI 0) st = nI 0 := by
  unfold costI
  rw [l_sum_cong (g := fun _ => 0) (fun j hj => ?_), l_sum_0]
  · rfl
  · show sizI (clampI (joinP L (drpA L (nI 0) (splitP st L)) j) - st j) = 0
    rw [join_congr L h3 _ _ (drp0 (bd_sh h3 hs)) j hj, back hs L h3, clm_sh (hs j hj), Int32.sub_self]
    rfl
/-! a cell by its parts -/
theorem J_at {f : Nat → Int32} {n r c : Nat} (hn : n = 8 ∨ n = 4 ∨ n = 2) (hr : r < n) (hc : c < n) : rowJ (colJ f n n) n n (8 * r + c) = oneO (oneO (f (8 * (r / 2) + c / 2)) (f (8 * (n / 2 + r / 2) + c / 2)) (r % 2)) (oneO (f (8 * (r / 2) + n / 2 + c / 2)) (f (8 * (n / 2 + r / 2) + n / 2 + c / 2)) (r % 2)) (c % 2) := by
  rw [rowJ_c hn n (by omega), if_pos (by omega)]
  unfold joiL
  rw [colJ_c n (by omega), colJ_c n (by omega), if_pos (by omega), if_pos (by omega)]
  unfold joiL
  rw [show (8 * ((8 * r + c) / 8) + (8 * r + c) % 8 / 2 * 1) % 8 + (8 * ((8 * r + c) / 8) + (8 * r + c) % 8 / 2 * 1) / 8 / 2 * 8 = 8 * (r / 2) + c / 2 by omega,
    show (8 * ((8 * r + c) / 8) + (8 * r + c) % 8 / 2 * 1) % 8 + (n / 2 + (8 * ((8 * r + c) / 8) + (8 * r + c) % 8 / 2 * 1) / 8 / 2) * 8 = 8 * (n / 2 + r / 2) + c / 2 by omega,
    show (8 * ((8 * r + c) / 8) + (n / 2 + (8 * r + c) % 8 / 2) * 1) % 8 + (8 * ((8 * r + c) / 8) + (n / 2 + (8 * r + c) % 8 / 2) * 1) / 8 / 2 * 8 = 8 * (r / 2) + n / 2 + c / 2 by omega,
    show (8 * ((8 * r + c) / 8) + (n / 2 + (8 * r + c) % 8 / 2) * 1) % 8 + (n / 2 + (8 * ((8 * r + c) / 8) + (n / 2 + (8 * r + c) % 8 / 2) * 1) / 8 / 2) * 8 = 8 * (n / 2 + r / 2) + n / 2 + c / 2 by omega,
    show (8 * ((8 * r + c) / 8) + (8 * r + c) % 8 / 2 * 1) / 8 % 2 = r % 2 by omega,
    show (8 * ((8 * r + c) / 8) + (n / 2 + (8 * r + c) % 8 / 2) * 1) / 8 % 2 = r % 2 by omega,
    show (8 * r + c) % 8 % 2 = c % 2 by omega]
theorem J_out {f : Nat → Int32} {n r c : Nat} (hn : n = 8 ∨ n = 4 ∨ n = 2) (h8 : c < 8) (h : ¬ (r < n ∧ c < n)) : rowJ (colJ f n n) n n (8 * r + c) = f (8 * r + c) := by
  rw [rowJ_c hn n (by omega), if_neg (by omega), colJ_c n (by omega), if_neg (by omega)]
def gJ (f : Nat → Int32) : Nat → Nat → Nat → Int32
  | 0, _ => f
  | d + 1, i => rowJ (colJ (gJ f d (i + 1)) (szL i) (szL i)) (szL i) (szL i)
theorem gJ_j {f : Nat → Int32} : ∀ d i, joinP (i + d) f = joinP i (gJ f d i) := by
  intro d
  induction d with
  | zero => intro i; rfl
  | succ d ih =>
    intro i
    rw [show i + (d + 1) = i + 1 + d by omega, ih (i + 1)]
    rfl
theorem gJ_n {f : Nat → Int32} : ∀ d i, i + d ≤ 3 → ∀ r c, r < 8 → c < 8 → (r < szL i ∧ c < szL i → gJ f d i (8 * r + c) = nmA f d i r c) ∧ (¬ (r < szL i ∧ c < szL i) → gJ f d i (8 * r + c) = f (8 * r + c)) := by
  intro d
  induction d with
  | zero => intro i _ r c _ _; exact ⟨fun _ => rfl, fun _ => rfl⟩
  | succ d ih =>
    intro i hi r c hr hc
    have hz := szL_in (i := i) (by omega)
    have hh := sz_half (i := i) (by omega)
    have he : szL (i + 1) = 8 / 2 ^ (i + 1) := rfl
    refine ⟨fun h => ?_, fun h => ?_⟩
    · show rowJ (colJ (gJ f d (i + 1)) (szL i) (szL i)) (szL i) (szL i) (8 * r + c) = oneO (oneO (nmA f d (i + 1) (r / 2) (c / 2)) (f (8 * (8 / 2 ^ (i + 1) + r / 2) + c / 2)) (r % 2)) (oneO (f (8 * (r / 2) + 8 / 2 ^ (i + 1) + c / 2)) (f (8 * (8 / 2 ^ (i + 1) + r / 2) + 8 / 2 ^ (i + 1) + c / 2)) (r % 2)) (c % 2)
      rw [J_at hz h.1 h.2, hh, ← he]
      rw [(ih (i + 1) (by omega) (r / 2) (c / 2) (by omega) (by omega)).1 (by omega)]
      rw [(ih (i + 1) (by omega) (szL (i + 1) + r / 2) (c / 2) (by omega) (by omega)).2 (by omega)]
      have e1 := (ih (i + 1) (by omega) (r / 2) (szL (i + 1) + c / 2) (by omega) (by omega)).2 (by omega)
      have e2 := (ih (i + 1) (by omega) (szL (i + 1) + r / 2) (szL (i + 1) + c / 2) (by omega) (by omega)).2 (by omega)
      rw [← Nat.add_assoc] at e1 e2
      rw [e1, e2]
    · show rowJ (colJ (gJ f d (i + 1)) (szL i) (szL i)) (szL i) (szL i) (8 * r + c) = _
      rw [J_out hz hc h]
      exact (ih (i + 1) (by omega) r c hr hc).2 (by omega)
theorem e_nm {L r c : Nat} {f : Nat → Int32} (h1 : 1 ≤ L) (h3 : L ≤ 3) (hr : r < 8) (hc : c < 8) : nmA f L 0 r c = joinP L f (8 * r + c) := by
  have h := gJ_j (f := f) L 0
  rw [Nat.zero_add] at h
  rw [h]
  exact ((gJ_n (f := f) L 0 (by omega) r c hr hc).1 ⟨hr, hc⟩).symm
