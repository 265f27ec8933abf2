/-! the pure book: B 0 sorts, 1 m, 2 k, 3 size, 4.. the row, 12 + 8 x ..: kind, p, q, size of the word, letters -/
def bkd (B : Nat → Nat) (x : Nat) : Nat := B (12 + 8 * x)
def bwl (B : Nat → Nat) (x : Nat) : Nat := B (12 + 8 * x + 3)
def bln (B : Nat → Nat) (x w : Nat) : Nat := B (12 + 8 * x + 1 + w) * (if bkd B x = 3 then 2 else 1)
def bil (B : Nat → Nat) (x : Nat) : Nat := if bkd B x = 4 then 1 else if bkd B x = 5 then 2 else bwl B x
def bia (B : Nat → Nat) (x i : Nat) : Nat := if 4 ≤ bkd B x then x else if bkd B x = 2 then B (12 + 8 * x + 4 + bwl B x - 1 - i) else B (12 + 8 * x + 4 + i)
/-- a sort's own places are right, n sorts are there -/
def sOK (n : Nat) (B : Nat → Nat) (x : Nat) : Prop := 1 ≤ bkd B x ∧ bkd B x ≤ 5 ∧ B (12 + 8 * x + 1) ≤ 9 ∧ B (12 + 8 * x + 1 + 1) ≤ 9 ∧ 1 ≤ bwl B x ∧ bwl B x ≤ 4 ∧ ∀ i, i < bwl B x → B (12 + 8 * x + 4 + i) < n
def bOK (B : Nat → Nat) : Prop := B 0 ≤ 4 ∧ B 1 ≤ 3 ∧ B 2 ≤ 9 ∧ B 3 ≤ 8 ∧ (0 < B 0 → 1 ≤ B 3) ∧ (∀ i, i < B 3 → B (4 + i) < B 0) ∧ ∀ x, x < B 0 → sOK (B 0) B x
theorem bOK.kd {B : Nat → Nat} (h : bOK B) {x : Nat} (hx : x < B 0) : 1 ≤ bkd B x ∧ bkd B x ≤ 5 := ⟨(h.2.2.2.2.2.2 x hx).1, (h.2.2.2.2.2.2 x hx).2.1⟩
theorem bOK.wl {B : Nat → Nat} (h : bOK B) {x : Nat} (hx : x < B 0) : 1 ≤ bwl B x ∧ bwl B x ≤ 4 := ⟨(h.2.2.2.2.2.2 x hx).2.2.2.2.1, (h.2.2.2.2.2.2 x hx).2.2.2.2.2.1⟩
theorem bOK.n4 {B : Nat → Nat} (h : bOK B) : B 0 ≤ 4 := h.1
theorem bOK.r8 {B : Nat → Nat} (h : bOK B) : B 3 ≤ 8 := h.2.2.2.1
theorem bOK.row {B : Nat → Nat} (h : bOK B) {i : Nat} (hi : i < B 3) : B (4 + i) < B 0 := h.2.2.2.2.2.1 i hi
theorem bOK.pq {B : Nat → Nat} (h : bOK B) {x : Nat} (hx : x < B 0) {w : Nat} (hw : w < 2) : B (12 + 8 * x + 1 + w) ≤ 9 := by
  have h2 := h.2.2.2.2.2.2 x hx
  rcases (show w = 0 ∨ w = 1 by omega) with e | e
  · subst e; exact h2.2.2.1
  · subst e; exact h2.2.2.2.1
theorem bOK.il {B : Nat → Nat} (h : bOK B) {x : Nat} (hx : x < B 0) : 1 ≤ bil B x ∧ bil B x ≤ 4 := by
  have h2 := h.wl hx
  unfold bil
  split
  · omega
  · split <;> omega
theorem bOK.ia {B : Nat → Nat} (h : bOK B) {x : Nat} (hx : x < B 0) {i : Nat} (hi : i < bil B x) : bia B x i < B 0 := by
  have h2 := h.2.2.2.2.2.2 x hx
  have h3 := h2.2.2.2.2.2.2
  have h4 := h.wl hx
  have h5 := h.kd hx
  unfold bil at hi
  unfold bia
  by_cases c : 4 ≤ bkd B x
  · rw [if_pos c]; exact hx
  · rw [if_neg c]
    rw [if_neg (by omega), if_neg (by omega)] at hi
    by_cases c2 : bkd B x = 2
    · rw [if_pos c2]
      have := h3 (bwl B x - 1 - i) (by omega)
      rw [show 12 + 8 * x + 4 + (bwl B x - 1 - i) = 12 + 8 * x + 4 + bwl B x - 1 - i by omega] at this
      exact this
    · rw [if_neg c2]
      exact h3 i hi
theorem bOK.ln {B : Nat → Nat} (h : bOK B) {x : Nat} (hx : x < B 0) {w : Nat} (hw : w < 2) : bln B x w ≤ 18 := by
  have := h.pq hx hw
  unfold bln
  split <;> omega
/-- a set has a bit -/
def zhas (S k : Int32) : Prop := (S >>> (k &&& 31)) &&& 1 = 1
/-- how many of the first n are so -/
noncomputable def zcnt (P : Nat → Prop) : Nat → Nat
  | 0 => 0
  | k + 1 => zcnt P k + zif (P k) 1 0
theorem zcnt_le (P : Nat → Prop) : ∀ k, zcnt P k ≤ k := by
  intro k
  induction k with
  | zero => exact Nat.le_refl 0
  | succ k ih =>
    show zcnt P k + zif (P k) 1 0 ≤ k + 1
    by_cases h : P k
    · rw [zif_t h]; omega
    · rw [zif_f h]; omega
/-- the sum of the first n -/
def zsum (f : Nat → Nat) : Nat → Nat
  | 0 => 0
  | k + 1 => zsum f k + f k
theorem zsum_le {f : Nat → Nat} {b : Nat} : ∀ {k : Nat}, (∀ i, i < k → f i ≤ b) → zsum f k ≤ k * b := by
  intro k
  induction k with
  | zero => intro _; show 0 ≤ _; omega
  | succ k ih =>
    intro h
    have h1 := ih (fun i hi => h i (by omega))
    have h2 := h k (by omega)
    show zsum f k + f k ≤ (k + 1) * b
    rw [Nat.add_mul]
    omega
/-- the first of n that is so; d, where none is -/
noncomputable def zfst (P : Nat → Prop) (d : Int32) : Nat → Nat → Int32
  | _, 0 => d
  | j, n + 1 => zif (P j) (nI j) (zfst P d (j + 1) n)
noncomputable def zsz (S : Int32) : Nat := zcnt (fun k => zhas S (nI k)) 16
/-- the image of sort x stands in f at i, ahead of n -/
def bimg (B : Nat → Nat) (f : Nat → Int32) (x i n : Nat) : Prop := i + bil B x ≤ n ∧ ∀ j, j < bil B x → f (i + j) = nI (bia B x j)
/-- how often sort x is in the image of y -/
noncomputable def boft (B : Nat → Nat) (x y : Nat) : Nat := zcnt (fun i => bia B y i = x) (bil B y)
/-- the lengths of an image -/
def bsum (B : Nat → Nat) (x w : Nat) : Nat := zsum (fun i => bln B (bia B x i) w) (bil B x)
def bsc1 (B : Nat → Nat) (a b x : Nat) : Prop := bsum B x 0 = bln B x 0 * a + bln B x 1 * b * B 2 ∧ bsum B x 1 = bln B x 0 * b + bln B x 1 * a + bln B x 1 * b * B 1
def bscale (B : Nat → Nat) (a b : Nat) : Prop := ∀ x, x < B 0 → bsc1 B a b x
theorem bOK.sum {B : Nat → Nat} (h : bOK B) {x : Nat} (hx : x < B 0) {w : Nat} (hw : w < 2) {k : Nat} (hk : k ≤ bil B x) : zsum (fun i => bln B (bia B x i) w) k ≤ k * 18 := zsum_le fun i hi => h.ln (h.ia hx (by omega)) hw
def bisOf (a b : Nat) : Prop := b = 0 ∨ a = b ∨ (b = 1 ∧ a < 4) ∨ (b = 4 ∧ a = 5)
theorem zlN3 {a n b : Nat} (ha : a < 2 ^ 31) (hn : n < 2 ^ 31) (hb : b < 2 ^ 31) : (lN a ≤ lN n ∧ lN n ≤ lN b) ↔ (a ≤ n ∧ n ≤ b) := by rw [lN_le ha hn, lN_le hn hb]
theorem zin_1 {v a b : Int64} (h1 : ¬ lg_cmp v a < 0) (h2 : ¬ 0 < lg_cmp v b) : nI 1 = zB (a ≤ v ∧ v ≤ b) := by
  rw [zB_t]
  · rfl
  · rw [lg_cmp_lt] at h1
    rw [lg_cmp_gt] at h2
    rw [zlt64] at h1 h2
    rw [zle64, zle64]
    omega
theorem zin_a {v a b : Int64} (h1 : lg_cmp v a < 0) : nI 0 = zB (a ≤ v ∧ v ≤ b) := by
  rw [zB_f]
  · rfl
  · rw [lg_cmp_lt, zlt64] at h1
    rw [zle64, zle64]
    omega
theorem zin_b {v a b : Int64} (h2 : 0 < lg_cmp v b) : nI 0 = zB (a ≤ v ∧ v ≤ b) := by
  rw [zB_f]
  · rfl
  · rw [lg_cmp_gt, zlt64] at h2
    rw [zle64, zle64]
    omega
theorem zge_ex {i : Int32} (h : 0 ≤ i) : ∃ n : Nat, i = nI n ∧ n < 2 ^ 31 := by
  obtain ⟨j, hj, e⟩ := nI_of (x := i) (by rw [zlt]; rw [zle] at h; show ¬ i.toInt < 0; have h2 : (0 : Int32).toInt = 0 := rfl; omega)
  exact ⟨j, e, hj⟩
theorem zsw_ex (x : Int32) (n : Nat) : (x.toInt < 0 ∨ (n : Int) < x.toInt) ∨ ∃ k, k ≤ n ∧ x = nI k := by
  by_cases h : x.toInt < 0 ∨ (n : Int) < x.toInt
  · exact Or.inl h
  · refine Or.inr ⟨zn x, ?_, zn_eq (by omega)⟩
    unfold zn
    omega
theorem zsw3 (x : Int32) : (x.toInt < 0 ∨ 3 < x.toInt) ∨ x = nI 0 ∨ x = nI 1 ∨ x = nI 2 ∨ x = nI 3 := by
  rcases zsw_ex x 3 with h | ⟨k, hk, rfl⟩
  · exact Or.inl h
  · rcases (show k = 0 ∨ k = 1 ∨ k = 2 ∨ k = 3 by omega) with e | e | e | e <;> subst e <;> simp
theorem zsw5 (x : Int32) : (x.toInt < 0 ∨ 5 < x.toInt) ∨ x = nI 0 ∨ x = nI 1 ∨ x = nI 2 ∨ x = nI 3 ∨ x = nI 4 ∨ x = nI 5 := by
  rcases zsw_ex x 5 with h | ⟨k, hk, rfl⟩
  · exact Or.inl h
  · rcases (show k = 0 ∨ k = 1 ∨ k = 2 ∨ k = 3 ∨ k = 4 ∨ k = 5 by omega) with e | e | e | e | e | e <;> subst e <;> simp
theorem zsw6 (x : Int32) : (x.toInt < 0 ∨ 6 < x.toInt) ∨ x = nI 0 ∨ x = nI 1 ∨ x = nI 2 ∨ x = nI 3 ∨ x = nI 4 ∨ x = nI 5 ∨ x = nI 6 := by
  rcases zsw_ex x 6 with h | ⟨k, hk, rfl⟩
  · exact Or.inl h
  · rcases (show k = 0 ∨ k = 1 ∨ k = 2 ∨ k = 3 ∨ k = 4 ∨ k = 5 ∨ k = 6 by omega) with e | e | e | e | e | e | e <;> subst e <;> simp
theorem znot {x : Int32} {n k : Nat} (h : x.toInt < 0 ∨ (n : Int) < x.toInt) (hk : k ≤ n) (hn : n < 2 ^ 31) : ¬ x = nI k := by
  intro e
  subst e
  rw [nI_toInt (by omega)] at h
  omega
/-- a number less one, as an int: -1 where there is none -/
def zdn (n : Nat) : Int32 := nI n - nI 1
theorem zdn_s (n : Nat) : zdn (n + 1) = nI n := nI_pred n
theorem zdn_m (n : Nat) : nI n + (-1) = zdn n := by
  unfold zdn
  rw [Int32.sub_eq_add_neg]
  rfl
theorem zdn_0 : zdn 0 < 0 := by decide
theorem zdn_nn {n : Nat} (h : ¬ zdn n < 0) : 0 < n := by
  rcases Nat.eq_zero_or_pos n with e | e
  · subst e; exact absurd zdn_0 h
  · exact e
/-- an array of truth values -/
noncomputable def zF (E : Nat → Prop) : Nat → Int32 := fun j => zB (E j)
theorem zF_up (E : Nat → Prop) (k : Nat) (P : Prop) : upd (zF E) k (zB P) = zF (va_up E k P) := by
  funext j
  unfold upd zF va_up
  by_cases h : j = k
  · rw [if_pos h, if_pos h]
  · rw [if_neg h, if_neg h]
theorem zlc {y : Nat} (h : y < 2 ^ 63) : lg_cmp (lN y) (lN 0) = zB (0 < y) := by
  by_cases c : 0 < y
  · rw [zB_t c]
    unfold lg_cmp
    rw [if_pos ((pk_lLT (by decide) h).mpr c)]
  · rw [zB_f c]
    have e : y = 0 := by omega
    subst e
    rfl
theorem zgcd {x y a b : Nat} (h : Nat.gcd x y = Nat.gcd a b) : Nat.gcd y (x % y) = Nat.gcd a b := by rw [Nat.gcd_comm, ← Nat.gcd_rec y x, Nat.gcd_comm]; exact h
theorem zif_ind {α : Type} {P : Prop} {a b : α} (Q : α → Prop) (ha : Q a) (hb : Q b) : Q (zif P a b) := by
  by_cases h : P
  · rw [zif_t h]; exact ha
  · rw [zif_f h]; exact hb
theorem znlt_ex {i : Int32} (h : ¬ i < 0) : ∃ n : Nat, i = nI n ∧ n < 2 ^ 31 := by
  obtain ⟨j, hj, e⟩ := nI_of h
  exact ⟨j, e, hj⟩
section ZL
variable {p : Program} {l : Launch} {e : Env} {R : Room} {s : State} {m : MethodId} {args : Array Value} {below : List Frame} {meth : Method} {c : Code} {H : Heap} {locs : List Loc} {cells slots : Nat} {Q : State → Prop}
variable {cc : ByteArray} {pc : Nat} {ls : Array Slot} {rest : List Value}
theorem zl_gt (hexec : p.tables.exec = Jvm.exec) (hb : c.code = cc) {a b : Nat} (ha : a < 2 ^ 63) (hb2 : b < 2 ^ 63) {off : Int} {tgt : Nat} (hdg : decode cc pc = .ok (.ifCond .gt off, 3)) (ht : (pc : Int) + off = (tgt : Int))
    (kt : b < a → W p l e R s m args below meth c H locs cells slots Q (F0 m tgt ls rest)) (kf : ¬ b < a → W p l e R s m args below meth c H locs cells slots Q (F0 m (pc + 3) ls rest)) : W p l e R s m args below meth c H locs cells slots Q (F0 m pc ls (.int (lg_cmp (lN a) (lN b)) :: rest)) :=
  lv_if_gt hexec hb hdg ht (fun h => kt ((pk_lLT hb2 ha).mp ((lg_cmp_gt _ _).mp h))) (fun h => kf (fun z => h ((lg_cmp_gt _ _).mpr ((pk_lLT hb2 ha).mpr z))))
theorem zl_le (hexec : p.tables.exec = Jvm.exec) (hb : c.code = cc) {a b : Nat} (ha : a < 2 ^ 63) (hb2 : b < 2 ^ 63) {off : Int} {tgt : Nat} (hdg : decode cc pc = .ok (.ifCond .le off, 3)) (ht : (pc : Int) + off = (tgt : Int))
    (kt : a ≤ b → W p l e R s m args below meth c H locs cells slots Q (F0 m tgt ls rest)) (kf : ¬ a ≤ b → W p l e R s m args below meth c H locs cells slots Q (F0 m (pc + 3) ls rest)) : W p l e R s m args below meth c H locs cells slots Q (F0 m pc ls (.int (lg_cmp (lN a) (lN b)) :: rest)) :=
  lv_if_le hexec hb hdg ht (fun h => kt ((pk_lLE ha hb2).mp ((lg_cmp_le _ _).mp h))) (fun h => kf (fun z => h ((lg_cmp_le _ _).mpr ((pk_lLE ha hb2).mpr z))))
theorem zl_lt (hexec : p.tables.exec = Jvm.exec) (hb : c.code = cc) {a b : Nat} (ha : a < 2 ^ 63) (hb2 : b < 2 ^ 63) {off : Int} {tgt : Nat} (hdg : decode cc pc = .ok (.ifCond .lt off, 3)) (ht : (pc : Int) + off = (tgt : Int))
    (kt : a < b → W p l e R s m args below meth c H locs cells slots Q (F0 m tgt ls rest)) (kf : ¬ a < b → W p l e R s m args below meth c H locs cells slots Q (F0 m (pc + 3) ls rest)) : W p l e R s m args below meth c H locs cells slots Q (F0 m pc ls (.int (lg_cmp (lN a) (lN b)) :: rest)) :=
  lv_if_lt hexec hb hdg ht (fun h => kt ((pk_lLT ha hb2).mp ((lg_cmp_lt _ _).mp h))) (fun h => kf (fun z => h ((lg_cmp_lt _ _).mpr ((pk_lLT ha hb2).mpr z))))
theorem zl_eq (hexec : p.tables.exec = Jvm.exec) (hb : c.code = cc) {a b : Nat} (ha : a < 2 ^ 63) (hb2 : b < 2 ^ 63) {off : Int} {tgt : Nat} (hdg : decode cc pc = .ok (.ifCond .eq off, 3)) (ht : (pc : Int) + off = (tgt : Int))
    (kt : a = b → W p l e R s m args below meth c H locs cells slots Q (F0 m tgt ls rest)) (kf : ¬ a = b → W p l e R s m args below meth c H locs cells slots Q (F0 m (pc + 3) ls rest)) : W p l e R s m args below meth c H locs cells slots Q (F0 m pc ls (.int (lg_cmp (lN a) (lN b)) :: rest)) :=
  lv_if_eq hexec hb hdg ht (fun h => kt ((pk_lEQ ha hb2).mp ((lg_cmp_eq _ _).mp h))) (fun h => kf (fun z => h ((lg_cmp_eq _ _).mpr ((pk_lEQ ha hb2).mpr z))))
end ZL
