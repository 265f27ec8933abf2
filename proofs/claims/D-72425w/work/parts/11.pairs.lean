/-! sets as numbers: bits, folds by 'or'; the pairs of a book, round by round -/
theorem z_or (a b : Nat) : nI a ||| nI b = nI (a ||| b) := by
  apply Int32.toBitVec_inj.1
  show BitVec.ofNat 32 a ||| BitVec.ofNat 32 b = BitVec.ofNat 32 (a ||| b)
  apply BitVec.eq_of_getLsbD_eq
  intro i hi
  simp [hi]
theorem z_and (a b : Nat) : nI a &&& nI b = nI (a &&& b) := by
  apply Int32.toBitVec_inj.1
  show BitVec.ofNat 32 a &&& BitVec.ofNat 32 b = BitVec.ofNat 32 (a &&& b)
  apply BitVec.eq_of_getLsbD_eq
  intro i hi
  simp [hi]
theorem z_sl : ∀ n, n < 32 → ((nI n &&& 31).toBitVec.smod 32).toNat = n := by decide +kernel
theorem zshl1 {a : Nat} (h : a < 31) : nI 1 <<< (nI a &&& 31) = nI (2 ^ a) := by
  have := pk_shlN (n := 1) (nI a &&& 31) a (z_sl a (by omega)) (by rw [Nat.one_mul]; exact Nat.pow_lt_pow_right (by decide) (by omega))
  rw [Nat.one_mul] at this
  exact this
theorem zhas_nI {n k : Nat} (hn : n < 2 ^ 31) (hk : k < 31) : zhas (nI n) (nI k) ↔ n.testBit k = true := by
  unfold zhas
  rw [pk_shrN hn (nI k &&& 31) k (z_sl k (by omega)), show (1 : Int32) = nI 1 from rfl, z_and, Nat.and_one_is_mod, nI_eq (by omega) (by decide), Nat.testBit_eq_decide_div_mod_eq]
  simp
/-- 'or' of the first n, behind a -/
def zor (f : Nat → Nat) (a : Nat) : Nat → Nat
  | 0 => a
  | k + 1 => zor f a k ||| f k
theorem zor_lt {f : Nat → Nat} {a b : Nat} (ha : a < 2 ^ b) : ∀ {k : Nat}, (∀ i, i < k → f i < 2 ^ b) → zor f a k < 2 ^ b := by
  intro k
  induction k with
  | zero => intro _; exact ha
  | succ k ih => intro h; exact Nat.or_lt_two_pow (ih fun i hi => h i (by omega)) (h k (by omega))
theorem zor_bit {f : Nat → Nat} {a j : Nat} : ∀ {k : Nat}, (zor f a k).testBit j = true ↔ a.testBit j = true ∨ ∃ i, i < k ∧ (f i).testBit j = true := by
  intro k
  induction k with
  | zero => exact ⟨fun h => Or.inl h, fun h => h.elim id (fun ⟨i, hi, _⟩ => absurd hi (Nat.not_lt_zero _))⟩
  | succ k ih =>
    show (zor f a k ||| f k).testBit j = true ↔ _
    rw [Nat.testBit_or, Bool.or_eq_true, ih]
    constructor
    · rintro ((h | ⟨i, hi, h⟩) | h)
      · exact Or.inl h
      · exact Or.inr ⟨i, by omega, h⟩
      · exact Or.inr ⟨k, by omega, h⟩
    · rintro (h | ⟨i, hi, h⟩)
      · exact Or.inl (Or.inl h)
      · rcases Nat.lt_or_ge i k with q | q
        · exact Or.inl (Or.inr ⟨i, q, h⟩)
        · have : i = k := by omega
          subst this
          exact Or.inr h
theorem z_bit2 {a j : Nat} : (2 ^ a).testBit j = true ↔ a = j := by rw [Nat.testBit_two_pow]; simp
/-- the letters, the pairs of the row -/
def bl0 (B : Nat → Nat) (k : Nat) : Nat := zor (fun i => 2 ^ B (4 + i)) 0 k
noncomputable def bp0 (B : Nat → Nat) (k : Nat) : Nat := zor (fun i => zif (0 < i) (2 ^ (4 * B (4 + i - 1) + B (4 + i))) 0) 0 k
/-- the letters, the pairs of an image, behind those that are there -/
def blx (B : Nat → Nat) (x a k : Nat) : Nat := zor (fun i => 2 ^ bia B x i) a k
noncomputable def bpx (B : Nat → Nat) (x a k : Nat) : Nat := zor (fun i => zif (0 < i) (2 ^ (4 * bia B x (i - 1) + bia B x i)) 0) a k
noncomputable def bxs (B : Nat → Nat) (q : Nat × Nat) : Nat → Nat × Nat
  | 0 => q
  | x + 1 => zif ((bxs B q x).1.testBit x = true) (blx B x (bxs B q x).1 (bil B x), bpx B x (bxs B q x).2 (bil B x)) (bxs B q x)
noncomputable def bps (B : Nat → Nat) (a : Nat) : Nat → Nat
  | 0 => a
  | j + 1 => zif ((bps B a j).testBit j = true) (bps B a j ||| 2 ^ (4 * bia B (j / 4) (bil B (j / 4) - 1) + bia B (j % 4) 0)) (bps B a j)
noncomputable def bro (B : Nat → Nat) (q : Nat × Nat) : Nat × Nat := ((bxs B q (B 0)).1, bps B (bxs B q (B 0)).2 16)
noncomputable def biter (B : Nat → Nat) : Nat → Nat × Nat
  | 0 => (bl0 B (B 3), bp0 B (B 3))
  | n + 1 => bro B (biter B n)
noncomputable def bpairs (B : Nat → Nat) : Nat := (biter B 21).2
/-- letters, pairs are of sorts that are there -/
def lOK (B : Nat → Nat) (a : Nat) : Prop := ∀ j, a.testBit j = true → j < B 0
def pOK (B : Nat → Nat) (a : Nat) : Prop := ∀ j, a.testBit j = true → j / 4 < B 0 ∧ j % 4 < B 0
theorem lOK.lt {B : Nat → Nat} {a : Nat} (h : lOK B a) (hB : B 0 ≤ 4) : a < 2 ^ 4 := Nat.lt_pow_two_of_testBit _ fun i hi => by
  cases e : a.testBit i with
  | false => rfl
  | true => have := h i e; omega
theorem pOK.lt {B : Nat → Nat} {a : Nat} (h : pOK B a) (hB : B 0 ≤ 4) : a < 2 ^ 16 := Nat.lt_pow_two_of_testBit _ fun i hi => by
  cases e : a.testBit i with
  | false => rfl
  | true => have := (h i e).1; omega
theorem pOK_pair {x y n : Nat} (hn : n ≤ 4) (hx : x < n) (hy : y < n) : (4 * x + y) / 4 < n ∧ (4 * x + y) % 4 < n := by omega
theorem lOK.or {B : Nat → Nat} {a : Nat} {f : Nat → Nat} {k : Nat} (h : lOK B a) (hf : ∀ i, i < k → lOK B (f i)) : lOK B (zor f a k) := by
  intro j hj
  rcases zor_bit.mp hj with q | ⟨i, hi, q⟩
  · exact h j q
  · exact hf i hi j q
theorem pOK.or {B : Nat → Nat} {a : Nat} {f : Nat → Nat} {k : Nat} (h : pOK B a) (hf : ∀ i, i < k → pOK B (f i)) : pOK B (zor f a k) := by
  intro j hj
  rcases zor_bit.mp hj with q | ⟨i, hi, q⟩
  · exact h j q
  · exact hf i hi j q
theorem lOK_0 {B : Nat → Nat} : lOK B 0 := fun j h => by rw [Nat.zero_testBit] at h; cases h
theorem pOK_0 {B : Nat → Nat} : pOK B 0 := fun j h => by rw [Nat.zero_testBit] at h; cases h
theorem lOK_1 {B : Nat → Nat} {x : Nat} (h : x < B 0) : lOK B (2 ^ x) := fun j hj => by rw [← z_bit2.mp hj]; exact h
theorem pOK_1 {B : Nat → Nat} (hB : B 0 ≤ 4) {x y : Nat} (h : x < B 0) (h2 : y < B 0) : pOK B (2 ^ (4 * x + y)) := fun j hj => by rw [← z_bit2.mp hj]; exact pOK_pair hB h h2
theorem pOK_z {B : Nat → Nat} {P : Prop} {a : Nat} (h : P → pOK B a) : pOK B (zif P a 0) := by
  by_cases c : P
  · rw [zif_t c]; exact h c
  · rw [zif_f c]; exact pOK_0
theorem bOK.l0 {B : Nat → Nat} (h : bOK B) {k : Nat} (hk : k ≤ B 3) : lOK B (bl0 B k) := lOK_0.or fun i hi => lOK_1 (h.row (by omega))
theorem bOK.p0 {B : Nat → Nat} (h : bOK B) {k : Nat} (hk : k ≤ B 3) : pOK B (bp0 B k) := pOK_0.or fun i hi => pOK_z fun hz => pOK_1 h.n4 (by have := h.row (i := i - 1) (by omega); rw [show 4 + (i - 1) = 4 + i - 1 by omega] at this; exact this) (h.row (by omega))
theorem bOK.lx {B : Nat → Nat} (h : bOK B) {x a k : Nat} (hx : x < B 0) (hk : k ≤ bil B x) (ha : lOK B a) : lOK B (blx B x a k) := ha.or fun i hi => lOK_1 (h.ia hx (by omega))
theorem bOK.px {B : Nat → Nat} (h : bOK B) {x a k : Nat} (hx : x < B 0) (hk : k ≤ bil B x) (ha : pOK B a) : pOK B (bpx B x a k) := ha.or fun i hi => pOK_z fun hz => pOK_1 h.n4 (h.ia hx (by omega)) (h.ia hx (by omega))
theorem bOK.xs {B : Nat → Nat} (h : bOK B) {q : Nat × Nat} (h1 : lOK B q.1) (h2 : pOK B q.2) : ∀ {n : Nat}, n ≤ B 0 → lOK B (bxs B q n).1 ∧ pOK B (bxs B q n).2 := by
  intro n
  induction n with
  | zero => intro _; exact ⟨h1, h2⟩
  | succ n ih =>
    intro hn
    have ih := ih (by omega)
    show lOK B (zif _ _ _ : Nat × Nat).1 ∧ pOK B (zif _ _ _ : Nat × Nat).2
    by_cases c : (bxs B q n).1.testBit n = true
    · rw [zif_t c]; exact ⟨h.lx (by omega) (Nat.le_refl _) ih.1, h.px (by omega) (Nat.le_refl _) ih.2⟩
    · rw [zif_f c]; exact ih
theorem bOK.ps {B : Nat → Nat} (h : bOK B) {a : Nat} (ha : pOK B a) : ∀ {n : Nat}, pOK B (bps B a n) := by
  intro n
  induction n with
  | zero => exact ha
  | succ n ih =>
    show pOK B (zif _ _ _)
    by_cases c : (bps B a n).testBit n = true
    · rw [zif_t c]
      intro j hj
      rw [Nat.testBit_or, Bool.or_eq_true] at hj
      rcases hj with q | q
      · exact ih j q
      · have h1 := ih n c
        exact pOK_1 h.n4 (h.ia h1.1 (by have := h.il h1.1; omega)) (h.ia h1.2 (by have := h.il h1.2; omega)) j q
    · rw [zif_f c]; exact ih
theorem bOK.it {B : Nat → Nat} (h : bOK B) : ∀ n, lOK B (biter B n).1 ∧ pOK B (biter B n).2 := by
  intro n
  induction n with
  | zero => exact ⟨h.l0 (Nat.le_refl _), h.p0 (Nat.le_refl _)⟩
  | succ n ih =>
    have h1 := h.xs ih.1 ih.2 (Nat.le_refl (B 0))
    exact ⟨h1.1, h.ps h1.2⟩
theorem bOK.prs {B : Nat → Nat} (h : bOK B) : bpairs B < 2 ^ 16 := (h.it 21).2.lt h.n4
/-! a round that brings nothing is the last one; no more than 20 bring something -/
def zsubs (a b : Nat) : Prop := ∀ j, a.testBit j = true → b.testBit j = true
theorem zsubs_or {a b : Nat} : zsubs a (a ||| b) := fun j h => by rw [Nat.testBit_or, h]; rfl
theorem zsubs.tr {a b c : Nat} (h : zsubs a b) (h2 : zsubs b c) : zsubs a c := fun j q => h2 j (h j q)
theorem zsubs_zor {f : Nat → Nat} {a k : Nat} : zsubs a (zor f a k) := fun _ h => zor_bit.mpr (Or.inl h)
theorem bxs_up (B : Nat → Nat) (q : Nat × Nat) : ∀ n, zsubs q.1 (bxs B q n).1 ∧ zsubs q.2 (bxs B q n).2 := by
  intro n
  induction n with
  | zero => exact ⟨fun _ h => h, fun _ h => h⟩
  | succ n ih =>
    show zsubs _ (zif _ _ _ : Nat × Nat).1 ∧ zsubs _ (zif _ _ _ : Nat × Nat).2
    by_cases c : (bxs B q n).1.testBit n = true
    · rw [zif_t c]; exact ⟨ih.1.tr zsubs_zor, ih.2.tr zsubs_zor⟩
    · rw [zif_f c]; exact ih
theorem bps_up (B : Nat → Nat) (a : Nat) : ∀ n, zsubs a (bps B a n) := by
  intro n
  induction n with
  | zero => exact fun _ h => h
  | succ n ih =>
    show zsubs _ (zif _ _ _)
    by_cases c : (bps B a n).testBit n = true
    · rw [zif_t c]; exact ih.tr zsubs_or
    · rw [zif_f c]; exact ih
theorem zcnt_mono {P Q : Nat → Prop} : ∀ {n : Nat}, (∀ i, i < n → P i → Q i) → zcnt P n ≤ zcnt Q n := by
  intro n
  induction n with
  | zero => intro _; exact Nat.le_refl _
  | succ n ih =>
    intro h
    have h1 := ih (fun i hi => h i (by omega))
    show zcnt P n + zif (P n) 1 0 ≤ zcnt Q n + zif (Q n) 1 0
    by_cases c : P n
    · rw [zif_t c, zif_t (h n (by omega) c)]; omega
    · rw [zif_f c]; omega
theorem zcnt_lt {P Q : Nat → Prop} {i : Nat} (hP : ¬ P i) (hQ : Q i) : ∀ {n : Nat}, i < n → (∀ i, i < n → P i → Q i) → zcnt P n < zcnt Q n := by
  intro n
  induction n with
  | zero => intro h; omega
  | succ n ih =>
    intro hi h
    show zcnt P n + zif (P n) 1 0 < zcnt Q n + zif (Q n) 1 0
    rcases Nat.lt_or_ge i n with c | c
    · have h1 := ih c (fun i hi => h i (by omega))
      by_cases c : P n
      · rw [zif_t c, zif_t (h n (by omega) c)]; omega
      · rw [zif_f c]; omega
    · have e : i = n := by omega
      subst e
      have h1 := zcnt_mono (n := i) (fun j hj => h j (by omega))
      rw [zif_f hP, zif_t hQ]
      omega
noncomputable def zmes (q : Nat × Nat) : Nat := zcnt (fun i => q.1.testBit i = true) 4 + zcnt (fun i => q.2.testBit i = true) 16
theorem zmes_le (q : Nat × Nat) : zmes q ≤ 20 := by
  have h1 := zcnt_le (fun i => q.1.testBit i = true) 4
  have h2 := zcnt_le (fun i => q.2.testBit i = true) 16
  unfold zmes
  omega
theorem zne_bit {a b n : Nat} (h : zsubs a b) (hb : b < 2 ^ n) (hne : a ≠ b) : ∃ i, i < n ∧ ¬ a.testBit i = true ∧ b.testBit i = true := by
  apply Classical.byContradiction
  intro hc
  apply hne
  apply Nat.eq_of_testBit_eq
  intro i
  cases e : b.testBit i with
  | false =>
    cases e2 : a.testBit i with
    | false => rfl
    | true => rw [h i e2] at e; cases e
  | true =>
    apply Classical.byContradiction
    intro h2
    apply hc
    refine ⟨i, ?_, h2, e⟩
    apply Classical.byContradiction
    intro h3
    have h4 : b < 2 ^ i := Nat.lt_of_lt_of_le hb (Nat.pow_le_pow_right (by decide) (by omega))
    rw [Nat.testBit_lt_two_pow h4] at e
    cases e
theorem biter_up {B : Nat → Nat} (h : bOK B) (n : Nat) (hne : biter B (n + 1) ≠ biter B n) : zmes (biter B n) < zmes (biter B (n + 1)) := by
  have hb := h.it (n + 1)
  have h1 : zsubs (biter B n).1 (biter B (n + 1)).1 := (bxs_up B (biter B n) (B 0)).1
  have h2 : zsubs (biter B n).2 (biter B (n + 1)).2 := (bxs_up B (biter B n) (B 0)).2.tr (bps_up B _ 16)
  unfold zmes
  have m1 := zcnt_mono (P := fun i => (biter B n).1.testBit i = true) (Q := fun i => (biter B (n + 1)).1.testBit i = true) (n := 4) (fun i _ => h1 i)
  have m2 := zcnt_mono (P := fun i => (biter B n).2.testBit i = true) (Q := fun i => (biter B (n + 1)).2.testBit i = true) (n := 16) (fun i _ => h2 i)
  by_cases c : (biter B n).1 = (biter B (n + 1)).1
  · have c2 : (biter B n).2 ≠ (biter B (n + 1)).2 := fun c2 => hne (Prod.ext c c2).symm
    obtain ⟨i, hi, q1, q2⟩ := zne_bit h2 (hb.2.lt h.n4) c2
    have := zcnt_lt (P := fun i => (biter B n).2.testBit i = true) (Q := fun i => (biter B (n + 1)).2.testBit i = true) q1 q2 hi (fun i _ => h2 i)
    omega
  · obtain ⟨i, hi, q1, q2⟩ := zne_bit h1 (hb.1.lt h.n4) c
    have := zcnt_lt (P := fun i => (biter B n).1.testBit i = true) (Q := fun i => (biter B (n + 1)).1.testBit i = true) q1 q2 hi (fun i _ => h1 i)
    omega
theorem biter_mes {B : Nat → Nat} (h : bOK B) : ∀ j, (∀ i, i < j → biter B (i + 1) ≠ biter B i) → j ≤ zmes (biter B j) := by
  intro j
  induction j with
  | zero => intro _; exact Nat.zero_le _
  | succ j ih =>
    intro hj
    have h1 := ih (fun i hi => hj i (by omega))
    have h2 := biter_up h j (hj j (by omega))
    omega
theorem biter_20 {B : Nat → Nat} (h : bOK B) {j : Nat} (hj : ∀ i, i < j → biter B (i + 1) ≠ biter B i) : j ≤ 20 := Nat.le_trans (biter_mes h j hj) (zmes_le _)
theorem biter_fix {B : Nat → Nat} {j : Nat} (h : biter B (j + 1) = biter B j) : ∀ d, biter B (j + d) = biter B j := by
  intro d
  induction d with
  | zero => rfl
  | succ d ih =>
    show bro B (biter B (j + d)) = _
    rw [ih]
    exact h
theorem bpairs_fix {B : Nat → Nat} {j : Nat} (hj : j ≤ 21) (h : biter B (j + 1) = biter B j) : (biter B j).2 = bpairs B := by
  have := biter_fix h (21 - j)
  rw [show j + (21 - j) = 21 by omega] at this
  unfold bpairs
  rw [this]
