/-! numbers: of each letter, in the row after n steps -/
noncomputable def bnin (B N : Nat → Nat) (x i y : Nat) : Nat := zsum (fun j => zif (bia B x j = y) (N x) 0) i
noncomputable def bnst (B N : Nat → Nat) (x y : Nat) : Nat := zsum (fun z => bnin B N z (bil B z) y) x
noncomputable def bnum (B : Nat → Nat) : Nat → Nat → Nat
  | 0, y => zsum (fun j => zif (B (4 + j) = y) 1 0) (B 3)
  | k + 1, y => bnst B (bnum B k) (B 0) y
def bbey (B : Nat → Nat) (n : Nat) : Prop := ∃ j, j ≤ n ∧ ∃ y, y < 4 ∧ 2 ^ 63 ≤ bnum B j y
noncomputable def btot (B : Nat → Nat) (n k : Nat) : Nat := zsum (bnum B n) k
noncomputable def bai (B : Nat → Nat) (n w x k : Nat) : Nat := zsum (fun x => bln B x w * bnum B n x) x + k * bnum B n x
theorem bbey_s {B : Nat → Nat} {k : Nat} : bbey B (k + 1) ↔ bbey B k ∨ ∃ y, y < 4 ∧ 2 ^ 63 ≤ bnum B (k + 1) y := by
  constructor
  · rintro ⟨j, hj, hy⟩
    by_cases q : j = k + 1
    · rw [q] at hy; exact Or.inr hy
    · exact Or.inl ⟨j, by omega, hy⟩
  · rintro (⟨j, hj, hy⟩ | hy)
    · exact ⟨j, by omega, hy⟩
    · exact ⟨k + 1, Nat.le_refl _, hy⟩
theorem bbey_le {B : Nat → Nat} {k n : Nat} (hk : k ≤ n) : bbey B k → bbey B n := fun ⟨j, hj, hy⟩ => ⟨j, by omega, hy⟩
theorem bnum_lt {B : Nat → Nat} {n y : Nat} (h : ¬ bbey B n) (hy : y < 4) : bnum B n y < 2 ^ 63 := Classical.byContradiction fun q => h ⟨n, Nat.le_refl _, y, hy, by omega⟩
theorem bnum0_le {B : Nat → Nat} (h : bOK B) (y k : Nat) (hk : k ≤ 8) : zsum (fun j => zif (B (4 + j) = y) 1 0) k ≤ 8 := by
  have := zsum_le (f := fun j => zif (B (4 + j) = y) 1 0) (b := 1) (k := k) (fun i _ => zif_ind (fun z => z ≤ 1) (Nat.le_refl _) (Nat.zero_le _))
  omega
theorem bbey_0 {B : Nat → Nat} (h : bOK B) : ¬ bbey B 0 := by
  rintro ⟨j, hj, y, hy, h2⟩
  obtain rfl : j = 0 := by omega
  have := bnum0_le h y (B 3) h.r8
  have h3 : bnum B 0 y ≤ 8 := this
  omega
/-- what a round of the sums keeps: the numbers, whether one is beyond, the true sums -/
def bJ (X : Nat → Nat) (p : Prop) (Y : Nat → Nat) : Prop := (∀ y, y < 4 → X y < 2 ^ 63) ∧ (p ↔ ∃ y, y < 4 ∧ 2 ^ 63 ≤ Y y) ∧ (¬ p → ∀ y, y < 4 → X y = Y y)
theorem bJ.step {X Y : Nat → Nat} {p : Prop} (h : bJ X p Y) {c v : Nat} (hc : c < 4) (hv : v < 2 ^ 63) : bJ (va_up X c (zif (p ∨ 2 ^ 63 ≤ X c + v) 0 (X c + v))) (p ∨ 2 ^ 63 ≤ X c + v) (fun y => Y y + zif (c = y) v 0) := by
  obtain ⟨h1, h2, h3⟩ := h
  refine ⟨fun y hy => ?_, ?_, ?_⟩
  · by_cases q : c = y
    · rw [← q, va_up_self]
      by_cases z : p ∨ 2 ^ 63 ≤ X c + v
      · rw [zif_t z]; decide
      · rw [zif_f z]; exact Nat.lt_of_not_le fun z2 => z (Or.inr z2)
    · rw [va_up_ne _ _ (fun z => q z.symm)]; exact h1 y hy
  · constructor
    · rintro (hp | hp)
      · obtain ⟨y, hy, h4⟩ := h2.mp hp
        exact ⟨y, hy, Nat.le_trans h4 (Nat.le_add_right _ _)⟩
      · by_cases q : p
        · obtain ⟨y, hy, h4⟩ := h2.mp q
          exact ⟨y, hy, Nat.le_trans h4 (Nat.le_add_right _ _)⟩
        · refine ⟨c, hc, ?_⟩
          show 2 ^ 63 ≤ Y c + zif (c = c) v 0
          rw [zif_t rfl, ← h3 q c hc]; exact hp
    · rintro ⟨y, hy, h4⟩
      have h4 : 2 ^ 63 ≤ Y y + zif (c = y) v 0 := h4
      by_cases q : p
      · exact Or.inl q
      · by_cases z : c = y
        · rw [zif_t z, ← z, ← h3 q c hc] at h4; exact Or.inr h4
        · rw [zif_f z] at h4; exact Or.inl (h2.mpr ⟨y, hy, h4⟩)
  · intro hn y hy
    have q : ¬ p := fun z => hn (Or.inl z)
    show _ = Y y + zif (c = y) v 0
    by_cases z : c = y
    · rw [← z, va_up_self, zif_f hn, zif_t rfl, h3 q c hc]
    · rw [va_up_ne _ _ (fun e => z e.symm), zif_f z, h3 q y hy]; rfl
theorem bnin_ext {B N M : Nat → Nat} {x i y : Nat} (h : N x = M x) : bnin B N x i y = bnin B M x i y := by unfold bnin; rw [h]
theorem bnst_ext {B N M : Nat → Nat} {y : Nat} : ∀ {x : Nat}, (∀ z, z < x → N z = M z) → bnst B N x y = bnst B M x y := by
  intro x h
  unfold bnst
  exact zsum_ext fun z hz => bnin_ext (h z hz)
theorem bJ.z {X : Nat → Nat} (h : ∀ y, y < 4 → X y = 0) {Y : Nat → Nat} (hY : ∀ y, y < 4 → Y y = 0) {p : Prop} (hp : ¬ p) : bJ X p Y :=
  ⟨fun y hy => by rw [h y hy]; decide, ⟨fun z => absurd z hp, fun ⟨y, hy, z⟩ => by rw [hY y hy] at z; exact absurd z (by decide)⟩, fun _ y hy => by rw [h y hy, hY y hy]⟩
theorem bJ.c {X Y Z : Nat → Nat} {p : Prop} (h : bJ X p Y) (e : ∀ y, y < 4 → Y y = Z y) : bJ X p Z :=
  ⟨h.1, h.2.1.trans ⟨fun ⟨y, hy, z⟩ => ⟨y, hy, by rw [← e y hy]; exact z⟩, fun ⟨y, hy, z⟩ => ⟨y, hy, by rw [e y hy]; exact z⟩⟩, fun z y hy => by rw [h.2.2 z y hy, e y hy]⟩
/-- what holds of the numbers after k steps -/
def bK (B N : Nat → Nat) (p : Prop) (k : Nat) : Prop := (∀ y, y < 4 → N y < 2 ^ 63) ∧ (p ↔ bbey B k) ∧ (¬ p → ∀ y, y < 4 → N y = bnum B k y)
theorem bK_0 {B : Nat → Nat} (h : bOK B) {p : Prop} (hp : ¬ p) : bK B (fun y => zsum (fun j => zif (B (4 + j) = y) 1 0) (B 3)) p 0 :=
  ⟨fun y _ => by have := bnum0_le h y (B 3) h.r8; exact Nat.lt_of_le_of_lt this (by decide), ⟨fun z => absurd z hp, fun z => absurd z (bbey_0 h)⟩, fun _ _ _ => rfl⟩
theorem bK.s {B N : Nat → Nat} {p : Prop} {k : Nat} (h : bK B N p k) (hn : ¬ p) (h4 : B 0 ≤ 4) {X : Nat → Nat} {p' : Prop} (hJ : bJ X p' (bnst B N (B 0))) : bK B X p' (k + 1) := by
  have e : ∀ y, bnst B N (B 0) y = bnum B (k + 1) y := fun y => bnst_ext fun z hz => h.2.2 hn z (by omega)
  refine ⟨hJ.1, ?_, fun z y hy => ?_⟩
  · rw [hJ.2.1, bbey_s]
    constructor
    · rintro ⟨y, hy, z⟩; exact Or.inr ⟨y, hy, by rw [← e]; exact z⟩
    · rintro (z | ⟨y, hy, z⟩)
      · exact absurd (h.2.1.mpr z) hn
      · exact ⟨y, hy, by rw [e]; exact z⟩
  · rw [hJ.2.2 z y hy, e]
theorem bK.le {B N : Nat → Nat} {p : Prop} {k n : Nat} (h : bK B N p k) (hp : p) (hk : k ≤ n) : bK B N p n :=
  ⟨h.1, ⟨fun z => bbey_le hk (h.2.1.mp z), fun _ => hp⟩, fun z => absurd hp z⟩
/-- sums of numbers -/
def bS (b : Prop) (v : Nat) (p : Prop) (t : Nat) : Prop := v < 2 ^ 63 ∧ (p ↔ b ∨ 2 ^ 63 ≤ t) ∧ (¬ p → v = t)
theorem bS.step {b : Prop} {v t : Nat} {p : Prop} (h : bS b v p t) {a c : Nat} (ha : ¬ b → a = c) : bS b (zif (p ∨ 2 ^ 63 ≤ v + a) 0 (v + a)) (p ∨ 2 ^ 63 ≤ v + a) (t + c) := by
  obtain ⟨h1, h2, h3⟩ := h
  refine ⟨?_, ?_, ?_⟩
  · by_cases z : p ∨ 2 ^ 63 ≤ v + a
    · rw [zif_t z]; decide
    · rw [zif_f z]; exact Nat.lt_of_not_le fun z2 => z (Or.inr z2)
  · constructor
    · rintro (hp | hp)
      · rcases h2.mp hp with q | q
        · exact Or.inl q
        · exact Or.inr (by omega)
      · by_cases q : p
        · rcases h2.mp q with q | q
          · exact Or.inl q
          · exact Or.inr (by omega)
        · have hb : ¬ b := fun z => q (h2.mpr (Or.inl z))
          rw [ha hb, h3 q] at hp; exact Or.inr hp
    · rintro (hp | hp)
      · exact Or.inl (h2.mpr (Or.inl hp))
      · by_cases q : p
        · exact Or.inl q
        · have hb : ¬ b := fun z => q (h2.mpr (Or.inl z))
          rw [← ha hb, ← h3 q] at hp; exact Or.inr hp
  · intro hn
    have q : ¬ p := fun z => hn (Or.inl z)
    have hb : ¬ b := fun z => q (h2.mpr (Or.inl z))
    rw [zif_f hn, h3 q, ha hb]
theorem bnum_pos {B : Nat → Nat} (h : bOK B) (h0 : 0 < B 0) : ∀ n, ∃ x, x < B 0 ∧ 0 < bnum B n x := by
  intro n
  induction n with
  | zero =>
    have h3 := h.2.2.2.2.1 h0
    refine ⟨B 4, h.row (i := 0) (by omega), ?_⟩
    show 0 < zsum (fun j => zif (B (4 + j) = B 4) 1 0) (B 3)
    have := zsum_lt (fun j => zif (B (4 + j) = B 4) 1 0) (show 0 < B 3 by omega)
    have e : zif (B (4 + 0) = B 4) 1 0 = 1 := zif_t rfl
    omega
  | succ n ih =>
    obtain ⟨x, hx, hp⟩ := ih
    have hl := h.il hx
    refine ⟨bia B x 0, h.ia hx (by omega), ?_⟩
    show 0 < zsum (fun z => bnin B (bnum B n) z (bil B z) (bia B x 0)) (B 0)
    have h1 := zsum_lt (fun z => bnin B (bnum B n) z (bil B z) (bia B x 0)) hx
    have h2 := zsum_lt (fun j => zif (bia B x j = bia B x 0) (bnum B n x) 0) (show 0 < bil B x by omega)
    have e : zif (bia B x 0 = bia B x 0) (bnum B n x) 0 = bnum B n x := zif_t rfl
    have e2 : bnin B (bnum B n) x (bil B x) (bia B x 0) = zsum (fun j => zif (bia B x j = bia B x 0) (bnum B n x) 0) (bil B x) := rfl
    omega
theorem btot_pos {B : Nat → Nat} (h : bOK B) (h0 : 0 < B 0) (n : Nat) : 0 < btot B n 4 := by
  obtain ⟨x, hx, hp⟩ := bnum_pos h h0 n
  have h4 := h.n4
  have := zsum_lt (bnum B n) (show x < 4 by omega)
  unfold btot
  omega
theorem zmax_ge (b : Nat) : lN 9223372036854775807 - lN b = lN (9223372036854775807 - b) ∨ 9223372036854775807 < b := by
  by_cases q : b ≤ 9223372036854775807
  · exact Or.inl (lN_sub q)
  · exact Or.inr (by omega)
noncomputable def opNumbers (S : zS) (s n : Int32) : Int64 × zS := zif (zIn s 0 ((S.2.1 4 0 : Nat) - 1 : Int)) (zif (zIn n 0 60) (zif (bbey (S.2.1 4) (zn n)) ((zfnd 6).toInt64, sSt S 6) (lN (bnum (S.2.1 4) (zn n) (zn s)), sSt S 0)) (-1000001, S)) (-1000001, S)
noncomputable def opShare (S : zS) (s n w : Int32) : Int64 × zS := zif (zIn s 0 ((S.2.1 4 0 : Nat) - 1 : Int)) (zif (zIn n 0 60) (zif (zIn w 0 1) (zif (bbey (S.2.1 4) (zn n) ∨ 2 ^ 63 ≤ btot (S.2.1 4) (zn n) 4) ((zfnd 6).toInt64, sSt S 6) (lN (zif (zn w = 0) (bnum (S.2.1 4) (zn n) (zn s)) (btot (S.2.1 4) (zn n) 4) / Nat.gcd (bnum (S.2.1 4) (zn n) (zn s)) (btot (S.2.1 4) (zn n) 4)), sSt S 0)) (-1000001, S)) (-1000001, S)) (-1000001, S)
noncomputable def opAll (S : zS) (n w : Int32) : Int64 × zS := zif (0 < S.2.1 4 0) (zif (zIn n 0 60) (zif (zIn w 0 1) (zif (bbey (S.2.1 4) (zn n) ∨ 2 ^ 63 ≤ zsum (fun x => bln (S.2.1 4) x (zn w) * bnum (S.2.1 4) (zn n) x) (S.2.1 4 0)) ((zfnd 6).toInt64, sSt S 6) (lN (zsum (fun x => bln (S.2.1 4) x (zn w) * bnum (S.2.1 4) (zn n) x) (S.2.1 4 0)), sSt S 0)) (-1000001, S)) (-1000001, S)) (-1000002, S)
