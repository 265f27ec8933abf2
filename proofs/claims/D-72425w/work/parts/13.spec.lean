/-! what the public methods answer: pure laws of the state (the order of the questions is the twin's) -/
noncomputable def opLetter (B : Nat → Nat) (i : Int32) : Int32 := zif (0 < B 0) (zif (0 ≤ i) (zif (B 3 ≤ zn i) (-1000000) (nI (B (4 + zn i)))) (-1000001)) (-1000002)
noncomputable def opSort (B : Nat → Nat) (s w : Int32) : Int32 := zif (zIn s 0 ((B 0 : Nat) - 1 : Int)) (zif (zIn w 10 13) (zif (bwl B (zn s) ≤ zn w - 10) (-1000000) (nI (B (12 + 8 * zn s + 4 + zn w - 10)))) (zif (zIn w 20 23) (zif (bil B (zn s) ≤ zn w - 20) (-1000000) (nI (bia B (zn s) (zn w - 20)))) (zif (w = nI 0) (nI (B (12 + 8 * zn s + 1 + 0))) (zif (w = nI 1) (nI (B (12 + 8 * zn s + 1 + 1))) (zif (w = nI 2) (nI (bwl B (zn s))) (zif (w = nI 3) (nI (bil B (zn s))) (-1000001))))))) (-1000001)
noncomputable def opKind (B : Nat → Nat) (s : Int32) : Int32 := zif (zIn s 0 ((B 0 : Nat) - 1 : Int)) (nI (bkd B (zn s))) (-1000001)
noncomputable def opTrace (tr : Nat → Nat) (n : Nat) (i : Int32) : Int32 := zif (zIn i 0 ((n : Nat) - 1 : Int)) (nI (tr (zn i))) (-1000000)
noncomputable def opCount (lane : Nat → Int32) (B : Nat → Nat) (acts taped : Nat) (w : Int32) : Int32 := zif (w = nI 0) (nI (zcnt (fun r => ¬ lane r < 0) 8)) (zif (w = nI 1) (nI (B 0)) (zif (w = nI 2) (nI (B 3)) (zif (w = nI 3) (nI (zsum (bwl B) (B 0))) (zif (w = nI 4) (nI acts) (zif (w = nI 5) (nI taped) (-1000001))))))
/-- the least scale, ten times s, and t; none -/
noncomputable def bscl (B : Nat → Nat) : Int32 := zfst (fun k => bscale B (k / 10) (k % 10)) (-1000000) 0 100
noncomputable def opWhole (B : Nat → Nat) (w : Int32) : Int32 := zif (0 < B 0) (zif (w = nI 0) (nI (B (1 + 0))) (zif (w = nI 1) (nI (B (1 + 1))) (zif (w = nI 2) (nI (B (1 + 2))) (zif (w = nI 3) (nI (bpairs B)) (zif (w = nI 4) (nI (zsz (nI (bpairs B)))) (zif (w = nI 5) (zif (bscl B = -1000000) (-1000000) (bscl B / nI 10)) (zif (w = nI 6) (zif (bscl B = -1000000) (-1000000) (bscl B - bscl B / nI 10 * nI 10)) (-1000001)))))))) (-1000002)
theorem zfst_up {P : Nat → Prop} {d : Int32} {j n : Nat} : zfst P d j (n + 1) = zif (P j) (nI j) (zfst P d (j + 1) n) := rfl
/-! sets of the row's letters -/
noncomputable def bss (B : Nat → Nat) (S k : Nat) : Nat := zsum (fun j => zif (S.testBit j = true) (bln B (B (4 + j)) 0) 0) k
noncomputable def bsets (B : Nat → Nat) (v : Nat) : Nat → Nat × Nat × Nat
  | 0 => (0, 2 ^ B 3 - 1, 0)
  | m + 1 => zif (bss B m (B 3) = v) ((bsets B v m).1 + 1, (bsets B v m).2.1 &&& m, (bsets B v m).2.2 ||| m) (bsets B v m)
noncomputable def opSets (B : Nat → Nat) (v w : Int32) : Int32 := zif (0 < B 0) (zif (zIn v 0 99) (zif (zIn w 0 2) (zif (zn w = 0) (nI (bsets B (zn v) (2 ^ B 3)).1) (zif (zn w = 2) (nI (bsets B (zn v) (2 ^ B 3)).2.2) (zif (0 < (bsets B (zn v) (2 ^ B 3)).1) (nI (bsets B (zn v) (2 ^ B 3)).2.1) (nI 0)))) (-1000001)) (-1000001)) (-1000002)
theorem bsets_le (B : Nat → Nat) (v : Nat) : ∀ m, (bsets B v m).1 ≤ m := by
  intro m
  induction m with
  | zero => exact Nat.le_refl _
  | succ m ih =>
    show (zif _ _ _ : Nat × Nat × Nat).1 ≤ m + 1
    by_cases c : bss B m (B 3) = v
    · rw [zif_t c]; show (bsets B v m).1 + 1 ≤ m + 1; omega
    · rw [zif_f c]; omega
theorem bOK.ss {B : Nat → Nat} (h : bOK B) {S k : Nat} (hk : k ≤ B 3) : bss B S k ≤ k * 18 := zsum_le fun i hi => zif_ind (fun z => z ≤ 18) (h.ln (h.row (by omega)) (by decide)) (by decide)
theorem bOK.pw {B : Nat → Nat} (h : bOK B) : 1 ≤ 2 ^ B 3 ∧ 2 ^ B 3 ≤ 256 := ⟨Nat.two_pow_pos _, (Nat.pow_le_pow_right (by decide) h.r8 : 2 ^ B 3 ≤ 2 ^ 8)⟩
/-! odds -/
noncomputable def bodds (p S : Nat) : Nat → Nat
  | 0 => 1
  | k + 1 => bodds p S k * zif (S.testBit k = true) (10 - p) p
noncomputable def bofs (B : Nat → Nat) (x S k : Nat) : Nat := zsum (fun j => zif (S.testBit j = true) (boft B x (B (4 + j))) 0) k
noncomputable def babv (B : Nat → Nat) (x v p m : Nat) : Nat := zsum (fun S => zif (v < bofs B x S (B 3)) 0 (bodds p S (B 3))) m
noncomputable def bbel (p n m : Nat) : Nat := zsum (fun S => bodds p S n) m
noncomputable def opLost (B : Nat → Nat) (s v p w : Int32) : Int64 := zif (zIn s 0 ((B 0 : Nat) - 1 : Int)) (zif (zIn v 0 40) (zif (zIn p 0 10) (zif (zIn w 0 1) (lN (zif (zn w = 0) (babv B (zn s) (zn v) (zn p) (2 ^ B 3)) (10 ^ B 3) / Nat.gcd (babv B (zn s) (zn v) (zn p) (2 ^ B 3)) (10 ^ B 3))) (-1000001)) (-1000001)) (-1000001)) (-1000001)
theorem zsum_ext {f g : Nat → Nat} : ∀ {k : Nat}, (∀ i, i < k → f i = g i) → zsum f k = zsum g k := by
  intro k
  induction k with
  | zero => intro _; rfl
  | succ k ih =>
    intro h
    show zsum f k + f k = zsum g k + g k
    rw [ih (fun i hi => h i (by omega)), h k (by omega)]
theorem zsum_add (f : Nat → Nat) (a : Nat) : ∀ b, zsum f (a + b) = zsum f a + zsum (fun i => f (a + i)) b := by
  intro b
  induction b with
  | zero => rfl
  | succ b ih =>
    show zsum f (a + b) + f (a + b) = _ + (_ + f (a + b))
    rw [ih]
    omega
theorem zsum_mul (f : Nat → Nat) (c : Nat) : ∀ k, zsum (fun i => f i * c) k = zsum f k * c := by
  intro k
  induction k with
  | zero => show 0 = 0 * c; omega
  | succ k ih =>
    show zsum (fun i => f i * c) k + f k * c = (zsum f k + f k) * c
    rw [ih, Nat.add_mul]
theorem zsum_mono {f g : Nat → Nat} : ∀ {k : Nat}, (∀ i, i < k → f i ≤ g i) → zsum f k ≤ zsum g k := by
  intro k
  induction k with
  | zero => intro _; exact Nat.le_refl _
  | succ k ih =>
    intro h
    have h1 := ih (fun i hi => h i (by omega))
    have h2 := h k (by omega)
    show zsum f k + f k ≤ zsum g k + g k
    omega
theorem bodds_ext {p S T : Nat} : ∀ {k : Nat}, (∀ j, j < k → S.testBit j = T.testBit j) → bodds p S k = bodds p T k := by
  intro k
  induction k with
  | zero => intro _; rfl
  | succ k ih =>
    intro h
    show bodds p S k * _ = bodds p T k * _
    rw [ih (fun j hj => h j (by omega)), h k (by omega)]
theorem bbel_10 {p : Nat} (hp : p ≤ 10) : ∀ n, bbel p n (2 ^ n) = 10 ^ n := by
  intro n
  induction n with
  | zero => rfl
  | succ n ih =>
    have e1 : zsum (fun S => bodds p S (n + 1)) (2 ^ n) = bbel p n (2 ^ n) * p := by
      unfold bbel
      rw [← zsum_mul]
      apply zsum_ext
      intro S hS
      show bodds p S n * zif (S.testBit n = true) (10 - p) p = _
      rw [zif_f (by rw [Nat.testBit_lt_two_pow hS]; decide)]
    have e2 : zsum (fun S => bodds p (2 ^ n + S) (n + 1)) (2 ^ n) = bbel p n (2 ^ n) * (10 - p) := by
      unfold bbel
      rw [← zsum_mul]
      apply zsum_ext
      intro S hS
      show bodds p (2 ^ n + S) n * zif ((2 ^ n + S).testBit n = true) (10 - p) p = _
      rw [zif_t (by rw [Nat.testBit_two_pow_add_eq, Nat.testBit_lt_two_pow hS]; rfl)]
      congr 1
      apply bodds_ext
      intro j hj
      exact Nat.testBit_two_pow_add_gt hj S
    show zsum (fun S => bodds p S (n + 1)) (2 ^ (n + 1)) = 10 ^ (n + 1)
    rw [show 2 ^ (n + 1) = 2 ^ n + 2 ^ n by rw [Nat.pow_succ]; omega, zsum_add, e1, e2, ih, ← Nat.mul_add, show p + (10 - p) = 10 by omega, Nat.pow_succ]
theorem babv_le (B : Nat → Nat) (x v p m : Nat) : babv B x v p m ≤ bbel p (B 3) m := zsum_mono fun i _ => zif_ind (fun z => z ≤ bodds p i (B 3)) (Nat.zero_le _) (Nat.le_refl _)
theorem bOK.ten {B : Nat → Nat} (h : bOK B) : 0 < 10 ^ B 3 ∧ 10 ^ B 3 ≤ 100000000 := ⟨Nat.pow_pos (by decide), (Nat.pow_le_pow_right (by decide) h.r8 : 10 ^ B 3 ≤ 10 ^ 8)⟩
theorem boft_le (B : Nat → Nat) (x y : Nat) : boft B x y ≤ bil B y := zcnt_le _ _
theorem bOK.ofs {B : Nat → Nat} (h : bOK B) {x S k : Nat} (hk : k ≤ B 3) : bofs B x S k ≤ k * 4 := zsum_le fun i hi => zif_ind (fun z => z ≤ 4) (Nat.le_trans (boft_le B x _) (h.il (h.row (by omega))).2) (by decide)
