/-! what is behind a place of a row: in how many ways it came of letters -/
noncomputable def bvt (B : Nat → Nat) (f : Nat → Int32) (n : Nat) : Nat → Nat → Nat
  | 0, k => zif (k = n) 1 0
  | d + 1, k => zif (k + (d + 1) = n) (zsum (fun x => zif (bimg B f x k n) (bvt B f n d (k + bil B x)) 0) (B 0)) (bvt B f n d k)
noncomputable def bV (B : Nat → Nat) (f : Nat → Int32) (n k : Nat) : Nat := bvt B f n n k
theorem bvt_st {B : Nat → Nat} {f : Nat → Int32} {n k d : Nat} (h : n ≤ k + d) : ∀ e, bvt B f n (d + e) k = bvt B f n d k := by
  intro e
  induction e with
  | zero => rfl
  | succ e ih =>
    show zif (k + (d + e + 1) = n) _ (bvt B f n (d + e) k) = _
    rw [zif_f (by omega), ih]
theorem bV_n (B : Nat → Nat) (f : Nat → Int32) (n : Nat) : bV B f n n = 1 := by
  have h := bvt_st (B := B) (f := f) (n := n) (k := n) (d := 0) (by omega) n
  rw [Nat.zero_add] at h
  unfold bV
  rw [h]
  exact zif_t rfl
theorem bV_s {B : Nat → Nat} (h : bOK B) {f : Nat → Int32} {n k : Nat} (hk : k < n) : bV B f n k = zsum (fun x => zif (bimg B f x k n) (bV B f n (k + bil B x)) 0) (B 0) := by
  obtain ⟨d, rfl⟩ : ∃ d, n = k + (d + 1) := ⟨n - k - 1, by omega⟩
  have e := bvt_st (B := B) (f := f) (n := k + (d + 1)) (k := k) (d := d + 1) (by omega) k
  rw [Nat.add_comm (d + 1) k] at e
  show bvt B f (k + (d + 1)) (k + (d + 1)) k = _
  rw [e]
  show zif (k + (d + 1) = k + (d + 1)) _ _ = _
  rw [zif_t rfl]
  apply zsum_ext
  intro x hx
  have hl := h.il hx
  have e2 := bvt_st (B := B) (f := f) (n := k + (d + 1)) (k := k + bil B x) (d := d) (by omega) (k + 1)
  rw [show d + (k + 1) = k + (d + 1) by omega] at e2
  show zif _ (bvt B f (k + (d + 1)) d (k + bil B x)) 0 = zif _ (bvt B f (k + (d + 1)) (k + (d + 1)) (k + bil B x)) 0
  rw [e2]
noncomputable def bA (B : Nat → Nat) (f : Nat → Int32) (n : Nat) : Nat → Nat → Nat
  | 0, t => zif (t = 0) 1 0
  | k + 1, t => bA B f n k t + zsum (fun x => zif (bimg B f x k n ∧ k + bil B x = t) (bA B f n k k) 0) (B 0)
noncomputable def bAx (B : Nat → Nat) (f : Nat → Int32) (n k x t : Nat) : Nat := bA B f n k t + zsum (fun x => zif (bimg B f x k n ∧ k + bil B x = t) (bA B f n k k) 0) x
theorem bAx_k {B : Nat → Nat} (h : bOK B) {f : Nat → Int32} {n k x : Nat} (hx : x ≤ B 0) : bAx B f n k x k = bA B f n k k := by
  have : zsum (fun x => zif (bimg B f x k n ∧ k + bil B x = k) (bA B f n k k) 0) x ≤ x * 0 := zsum_le fun i hi => by
    have hl := h.il (x := i) (by omega)
    rw [zif_f (by omega)]
    exact Nat.le_refl 0
  unfold bAx
  omega
theorem zsum_z {f : Nat → Nat} {k : Nat} (h : ∀ i, i < k → f i = 0) : zsum f k = 0 := by
  have := zsum_le (f := f) (b := 0) (k := k) (fun i hi => by rw [h i hi]; exact Nat.le_refl 0)
  omega
theorem zsum_plus (f g : Nat → Nat) : ∀ k, zsum (fun i => f i + g i) k = zsum f k + zsum g k := by
  intro k
  induction k with
  | zero => rfl
  | succ k ih =>
    show zsum (fun i => f i + g i) k + (f k + g k) = zsum f k + f k + (zsum g k + g k)
    rw [ih]; omega
theorem zsum_swap (f : Nat → Nat → Nat) (a : Nat) : ∀ b, zsum (fun i => zsum (fun j => f i j) b) a = zsum (fun j => zsum (fun i => f i j) a) b := by
  intro b
  induction b with
  | zero => exact zsum_z fun _ _ => rfl
  | succ b ih =>
    show zsum (fun i => zsum (fun j => f i j) b + f i b) a = zsum (fun j => zsum (fun i => f i j) a) b + zsum (fun i => f i b) a
    rw [zsum_plus, ih]
theorem zsum_1 {f : Nat → Nat} {c : Nat} : ∀ {k : Nat}, c < k → (∀ i, i < k → i ≠ c → f i = 0) → zsum f k = f c := by
  intro k
  induction k with
  | zero => intro h; omega
  | succ k ih =>
    intro hc h
    show zsum f k + f k = f c
    by_cases q : c = k
    · rw [zsum_z (fun i hi => h i (by omega) (by omega)), q, Nat.zero_add]
    · rw [ih (by omega) (fun i hi => h i (by omega)), h k (by omega) (by omega), Nat.add_zero]
theorem bA_V {B : Nat → Nat} (h : bOK B) {f : Nat → Int32} {n : Nat} : ∀ k, k ≤ n → zsum (fun q => bA B f n k (k + q) * bV B f n (k + q)) (n - k + 1) = bV B f n 0 := by
  intro k
  induction k with
  | zero =>
    intro _
    rw [zsum_sh, zsum_z (f := fun i => bA B f n 0 (0 + (i + 1)) * bV B f n (0 + (i + 1))) (fun i _ => by
      show zif (0 + (i + 1) = 0) 1 0 * _ = 0
      rw [zif_f (by omega), Nat.zero_mul])]
    show zif (0 + 0 = 0) 1 0 * bV B f n (0 + 0) + 0 = _
    rw [zif_t rfl, Nat.one_mul]
    rfl
  | succ k ih =>
    intro hk
    rw [← ih (by omega), zsum_sh (fun q => bA B f n k (k + q) * bV B f n (k + q)), show n - k = n - (k + 1) + 1 by omega]
    have e1 : ∀ q, bA B f n (k + 1) (k + 1 + q) * bV B f n (k + 1 + q) = bA B f n k (k + (q + 1)) * bV B f n (k + (q + 1)) + zsum (fun x => zif (bimg B f x k n ∧ k + bil B x = k + 1 + q) (bA B f n k k) 0 * bV B f n (k + 1 + q)) (B 0) := by
      intro q
      show (bA B f n k (k + 1 + q) + zsum (fun x => zif (bimg B f x k n ∧ k + bil B x = k + 1 + q) (bA B f n k k) 0) (B 0)) * bV B f n (k + 1 + q) = _
      rw [Nat.add_mul, ← zsum_mul, show k + 1 + q = k + (q + 1) by omega]
    rw [zsum_ext fun q _ => e1 q, zsum_plus]
    show _ + zsum (fun q => zsum (fun x => zif (bimg B f x k n ∧ k + bil B x = k + 1 + q) (bA B f n k k) 0 * bV B f n (k + 1 + q)) (B 0)) (n - (k + 1) + 1) = bA B f n k (k + 0) * bV B f n (k + 0) + _
    rw [zsum_swap, show k + 0 = k from rfl, bV_s h (show k < n by omega), Nat.add_comm (bA B f n k k * _), Nat.mul_comm (bA B f n k k), ← zsum_mul]
    congr 1
    apply zsum_ext
    intro x hx
    have hl := h.il hx
    by_cases c : bimg B f x k n
    · rw [zif_t c, zsum_1 (c := bil B x - 1) (by have := c.1; omega) (fun i hi hne => by rw [zif_f (by omega), Nat.zero_mul]), zif_t ⟨c, by omega⟩, show k + 1 + (bil B x - 1) = k + bil B x by omega, Nat.mul_comm]
    · rw [zif_f c, Nat.zero_mul]
      exact zsum_z fun i _ => by rw [zif_f (fun z => c z.1), Nat.zero_mul]
theorem bA_n {B : Nat → Nat} (h : bOK B) (f : Nat → Int32) (n : Nat) : bA B f n n n = bV B f n 0 := by
  have e := bA_V h (f := f) n (Nat.le_refl n)
  rw [Nat.sub_self] at e
  rw [← e]
  show _ = 0 + bA B f n n (n + 0) * bV B f n (n + 0)
  rw [Nat.add_zero, bV_n]
  omega
theorem bV_pos {B : Nat → Nat} (h : bOK B) {f : Nat → Int32} {n k : Nat} (hk : k < n) : 0 < bV B f n k ↔ ∃ x, x < B 0 ∧ bimg B f x k n ∧ 0 < bV B f n (k + bil B x) := by
  rw [bV_s h hk]
  constructor
  · intro q
    apply Classical.byContradiction
    intro hn
    rw [zsum_z fun x hx => ?_] at q
    · exact absurd q (Nat.lt_irrefl 0)
    · by_cases c : bimg B f x k n
      · rw [zif_t c]; exact Nat.eq_zero_of_not_pos fun z => hn ⟨x, hx, c, z⟩
      · exact zif_f c
  · rintro ⟨x, hx, c, hp⟩
    have := zsum_lt (fun x => zif (bimg B f x k n) (bV B f n (k + bil B x)) 0) hx
    have e : zif (bimg B f x k n) (bV B f n (k + bil B x)) 0 = bV B f n (k + bil B x) := zif_t c
    omega
/-- the first sort that may come at i -/
noncomputable def bfs (B : Nat → Nat) (f : Nat → Int32) (n i : Nat) : Nat := zn (zfst (fun x => bimg B f x i n ∧ 0 < bV B f n (i + bil B x)) (-1000000) 0 (B 0))
theorem zfst_c {P Q : Nat → Prop} {d : Int32} : ∀ {n j : Nat}, (∀ x, j ≤ x → x < j + n → (P x ↔ Q x)) → zfst P d j n = zfst Q d j n := by
  intro n
  induction n with
  | zero => intro _ _; rfl
  | succ n ih =>
    intro j h
    show zif (P j) (nI j) (zfst P d (j + 1) n) = zif (Q j) (nI j) (zfst Q d (j + 1) n)
    rw [ih fun x h1 h2 => h x (by omega) (by omega), propext (h j (Nat.le_refl _) (by omega))]
theorem zfst_ex {P : Nat → Prop} {d : Int32} : ∀ {n j : Nat}, (∃ x, j ≤ x ∧ x < j + n ∧ P x) → ∃ x, zfst P d j n = nI x ∧ j ≤ x ∧ x < j + n ∧ P x ∧ ∀ y, j ≤ y → y < x → ¬ P y := by
  intro n
  induction n with
  | zero => rintro j ⟨x, h1, h2, _⟩; omega
  | succ n ih =>
    rintro j ⟨x, h1, h2, h3⟩
    by_cases c : P j
    · exact ⟨j, zif_t c, Nat.le_refl _, by omega, c, fun y h4 h5 => by omega⟩
    · have hjx : j + 1 ≤ x := by
        rcases Nat.lt_or_ge j x with q | q
        · exact q
        · obtain rfl : x = j := by omega
          exact absurd h3 c
      obtain ⟨z, e, i1, i2, i3, i4⟩ := ih ⟨x, hjx, by omega, h3⟩
      refine ⟨z, ?_, by omega, by omega, i3, fun y h4 h5 => ?_⟩
      · show zif (P j) (nI j) (zfst P d (j + 1) n) = nI z
        rw [zif_f c, e]
      · by_cases q : y = j
        · rw [q]; exact c
        · exact i4 y (by omega) h5
theorem bfs_at {B : Nat → Nat} (h : bOK B) {f : Nat → Int32} {n i : Nat} (hi : i < n) (hp : 0 < bV B f n i) : zfst (fun x => bimg B f x i n ∧ 0 < bV B f n (i + bil B x)) (-1000000) 0 (B 0) = nI (bfs B f n i) ∧ bfs B f n i < B 0 ∧ bimg B f (bfs B f n i) i n ∧ 0 < bV B f n (i + bil B (bfs B f n i)) ∧ ∀ y, y < bfs B f n i → ¬ (bimg B f y i n ∧ 0 < bV B f n (i + bil B y)) := by
  obtain ⟨x, hx, hq⟩ := (bV_pos h hi).mp hp
  obtain ⟨z, e, _, i2, i3, i4⟩ := zfst_ex (d := -1000000) (j := 0) (n := B 0) (P := fun x => bimg B f x i n ∧ 0 < bV B f n (i + bil B x)) ⟨x, Nat.zero_le _, by omega, hq⟩
  have h4 := h.n4
  have ez : bfs B f n i = z := by unfold bfs; rw [e]; exact zn_nI (by omega)
  rw [ez]
  exact ⟨e, by omega, i3.1, i3.2, fun y hy => i4 y (Nat.zero_le _) hy⟩
/-- where the letter j of what is behind begins -/
noncomputable def bpos (B : Nat → Nat) (f : Nat → Int32) (n : Nat) : Nat → Nat
  | 0 => 0
  | j + 1 => zif (bpos B f n j < n) (bpos B f n j + bil B (bfs B f n (bpos B f n j))) (bpos B f n j)
theorem bpos_ok {B : Nat → Nat} (h : bOK B) {f : Nat → Int32} {n : Nat} (hp : 0 < bV B f n 0) : ∀ j, bpos B f n j ≤ n ∧ 0 < bV B f n (bpos B f n j) := by
  intro j
  induction j with
  | zero => exact ⟨Nat.zero_le _, hp⟩
  | succ j ih =>
    show zif _ _ _ ≤ n ∧ 0 < bV B f n (zif _ _ _)
    by_cases c : bpos B f n j < n
    · rw [zif_t c]
      have h2 := bfs_at h c ih.2
      exact ⟨h2.2.2.1.1, h2.2.2.2.1⟩
    · rw [zif_f c]; exact ih
theorem bpos_st {B : Nat → Nat} {f : Nat → Int32} {n j : Nat} (hn : ¬ bpos B f n j < n) : ∀ d, bpos B f n (j + d) = bpos B f n j := by
  intro d
  induction d with
  | zero => rfl
  | succ d ih =>
    show zif (bpos B f n (j + d) < n) _ (bpos B f n (j + d)) = _
    rw [ih, zif_f hn]
noncomputable def bback (B : Nat → Nat) (f : Nat → Int32) (n : Nat) (w : Int32) : Int32 := zif (w = -1) (nI (min 1000000 (bV B f n 0))) (zif (0 < bV B f n 0) (zif (bpos B f n (zn w) < n) (nI (bfs B f n (bpos B f n (zn w)))) (-1000000)) (-1000000))
noncomputable def opBack (S : zS) (r n w : Int32) : Int32 × zS := zif (0 < S.2.1 4 0) (zif (zIn r 0 7) (zif (zIn n 1 40) (zif (-1 ≤ w) (zif (sLL S (zn r) (zn n) = 0) (bback (S.2.1 4) (fun k => S.2.2.1 3 (40 * zn r + k)) (zn n) w, sSt S 0) (zres (sLL S (zn r) (zn n)), sSt S (sLL S (zn r) (zn n)))) (-1000001, S)) (-1000001, S)) (-1000001, S)) (-1000002, S)
theorem zdn_p {n : Nat} (h : 0 < n) : zdn n = nI (n - 1) := by
  obtain ⟨k, rfl⟩ : ∃ k, n = k + 1 := ⟨n - 1, by omega⟩
  exact zdn_s k
/-- what the twin's arrays hold -/
theorem bA_up {B : Nat → Nat} (h : bOK B) {f : Nat → Int32} {n k x : Nat} (hx : x < B 0) {W : Nat → Nat} (hW : ∀ t, t ≤ n → W t = min 1000000 (bAx B f n k x t)) (hk : k < n) (c : bimg B f x k n) : ∀ t, t ≤ n → va_up W (k + bil B x) (min 1000000 (W (k + bil B x) + W k)) t = min 1000000 (bAx B f n k (x + 1) t) := by
  intro t ht
  have e : bAx B f n k (x + 1) t = bAx B f n k x t + zif (bimg B f x k n ∧ k + bil B x = t) (bA B f n k k) 0 := (Nat.add_assoc _ _ _).symm
  have hk2 := hW k (by omega)
  rw [bAx_k h (by omega)] at hk2
  by_cases q : t = k + bil B x
  · have ht2 := hW t ht
    rw [e, zif_t ⟨c, q.symm⟩, ← q, va_up_self, ht2, hk2]
    omega
  · rw [va_up_ne _ _ q, e, zif_f (fun z => q z.2.symm), hW t ht]
    rfl
theorem bA_no {B : Nat → Nat} {f : Nat → Int32} {n k x t : Nat} (c : ¬ bimg B f x k n) : bAx B f n k (x + 1) t = bAx B f n k x t := by
  have e : bAx B f n k (x + 1) t = bAx B f n k x t + zif (bimg B f x k n ∧ k + bil B x = t) (bA B f n k k) 0 := (Nat.add_assoc _ _ _).symm
  rw [e, zif_f (fun z => c z.1)]
  rfl
