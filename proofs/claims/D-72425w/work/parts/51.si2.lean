theorem SI.row {S : zS} (h : SI S) (r l n : Int32) : SI (opRow S r l n).2 := by
  have h0 := h
  obtain ⟨i1, i2, i3, i4, i5, i6, i7, i8, i9, i10, i11, i12⟩ := h0
  unfold opRow
  refine zif_dep (fun z : Int32 × zS => SI z.2) (fun c1 => ?_) (fun c1 => ?_)
  · skip
    refine zif_dep (fun z : Int32 × zS => SI z.2) (fun c2 => ?_) (fun c2 => ?_)
    · skip
      refine zif_dep (fun z : Int32 × zS => SI z.2) (fun c3 => ?_) (fun c3 => ?_)
      · skip
        refine zif_dep (fun z : Int32 × zS => SI z.2) (fun c4 => ?_) (fun c4 => ?_)
        · skip
          obtain ⟨x, rfl, hx, hx0⟩ := zIn_ex c1 (by decide)
          obtain ⟨k, rfl, hk⟩ := zge_ex c4
          have hk40 : k ≤ 40 := (nI_leI hk (by decide)).mp c3
          refine ⟨i1, Nat.zero_le _, i3, i4, i5, i6, fun q hq => ?_, i8, i9, i10, i11, i12⟩
          show va_up (S.2.1 2) (zn (nI x)) (zn (nI k)) q ≤ 40
          by_cases e : q = zn (nI x)
          · rw [e, va_up_self, zn_nI (by omega)]; exact hk40
          · rw [va_upn e]; exact i7 q hq
        · skip
          exact h.st (by decide)
      · skip
        exact h
    · skip
      exact h
  · skip
    exact h
theorem SI.set {S : zS} (h : SI S) (r i v : Int32) : SI (opSet S r i v).2 := by
  have h0 := h
  obtain ⟨i1, i2, i3, i4, i5, i6, i7, i8, i9, i10, i11, i12⟩ := h0
  unfold opSet
  refine zif_dep (fun z : Int32 × zS => SI z.2) (fun c1 => ?_) (fun c1 => ?_)
  · skip
    refine zif_dep (fun z : Int32 × zS => SI z.2) (fun c2 => ?_) (fun c2 => ?_)
    · skip
      refine zif_dep (fun z : Int32 × zS => SI z.2) (fun c3 => ?_) (fun c3 => ?_)
      · skip
        exact ⟨i1, Nat.zero_le _, i3, i4, i5, i6, i7, i8, i9, i10, i11, i12⟩
      · skip
        exact h.st (by decide)
    · skip
      exact h.st (by decide)
  · skip
    exact h
theorem SI.copy {S : zS} (h : SI S) (a i b j n : Int32) : SI (opCopy S a i b j n).2 := by
  have h0 := h
  obtain ⟨i1, i2, i3, i4, i5, i6, i7, i8, i9, i10, i11, i12⟩ := h0
  unfold opCopy
  refine zif_dep (fun z : Int32 × zS => SI z.2) (fun c1 => ?_) (fun c1 => ?_)
  · skip
    refine zif_dep (fun z : Int32 × zS => SI z.2) (fun c2 => ?_) (fun c2 => ?_)
    · skip
      refine zif_dep (fun z : Int32 × zS => SI z.2) (fun c3 => ?_) (fun c3 => ?_)
      · skip
        exact h.st (by decide)
      · skip
        refine zif_dep (fun z : Int32 × zS => SI z.2) (fun c4 => ?_) (fun c4 => ?_)
        · skip
          refine zif_dep (fun z : Int32 × zS => SI z.2) (fun c5 => ?_) (fun c5 => ?_)
          · skip
            refine zif_dep (fun z : Int32 × zS => SI z.2) (fun c6 => ?_) (fun c6 => ?_)
            · skip
              exact ⟨i1, Nat.zero_le _, i3, i4, i5, i6, i7, i8, i9, i10, i11, i12⟩
            · skip
              exact h.st (by decide)
          · skip
            exact h.st (by decide)
        · skip
          exact h.st (by decide)
    · skip
      exact h
  · skip
    exact h
theorem SI.drop {S : zS} (h : SI S) (r : Int32) : SI (opDrop S r).2 := by
  have h0 := h
  obtain ⟨i1, i2, i3, i4, i5, i6, i7, i8, i9, i10, i11, i12⟩ := h0
  unfold opDrop
  refine zif_dep (fun z : Int32 × zS => SI z.2) (fun c1 => ?_) (fun c1 => ?_)
  · skip
    refine zif_dep (fun z : Int32 × zS => SI z.2) (fun c2 => ?_) (fun c2 => ?_)
    · skip
      exact ⟨i1, Nat.zero_le _, i3, i4, i5, i6, i7, i8, i9, i10, i11, i12⟩
    · skip
      exact h.st (by decide)
  · skip
    exact h
theorem SI.feed {S : zS} (h : SI S) (w : Int32) : SI (opFeed S w).2 := by
  have h0 := h
  obtain ⟨i1, i2, i3, i4, i5, i6, i7, i8, i9, i10, i11, i12⟩ := h0
  unfold opFeed
  refine zif_dep (fun z : Int32 × zS => SI z.2) (fun c1 => ?_) (fun c1 => ?_)
  · skip
    refine zif_dep (fun z : Int32 × zS => SI z.2) (fun c2 => ?_) (fun c2 => ?_)
    · skip
      exact h
    · skip
      obtain ⟨x, rfl, hx, hx0⟩ := zIn_ex c1 (by decide)
      refine ⟨i1, i2, i3, by show S.1 12 + 1 ≤ 120; omega, i5, i6, i7, i8, i9, fun q => ?_, i11, i12⟩
      show va_up (S.2.1 11) (S.1 12) (zn (nI x)) q < 256
      by_cases e : q = S.1 12
      · rw [e, va_up_self, zn_nI (by omega)]; omega
      · rw [va_upn e]; exact i10 q
  · skip
    exact h
theorem SI.undo {S : zS} (h : SI S) : SI (opUndo S).2 := by
  have h0 := h
  obtain ⟨i1, i2, i3, i4, i5, i6, i7, i8, i9, i10, i11, i12⟩ := h0
  unfold opUndo
  refine zif_dep (fun z : Int32 × zS => SI z.2) (fun c1 => ?_) (fun c1 => ?_)
  · skip
    exact h
  · skip
    refine ⟨i8 _ (by omega), i2, by show S.1 8 - 1 ≤ 24; omega, i4, i5, i6, i7, fun i hi => i8 i ?_, i9, i10, fun i hi => i11 i ?_, fun _ => i11 (S.1 8 - 1) (by omega)⟩
    · have hi : i < S.1 8 - 1 := hi
      omega
    · have hi : i < S.1 8 - 1 := hi
      omega
theorem SI.word {S : zS} (h : SI S) (ha : S.1 8 < 24) (s r n : Int32) : SI (opWord S s r n).2 := by
  have h0 := h
  obtain ⟨i1, i2, i3, i4, i5, i6, i7, i8, i9, i10, i11, i12⟩ := h0
  unfold opWord
  refine zif_dep (fun z : Int32 × zS => SI z.2) (fun c1 => ?_) (fun c1 => ?_)
  · skip
    refine zif_dep (fun z : Int32 × zS => SI z.2) (fun c2 => ?_) (fun c2 => ?_)
    · skip
      refine zif_dep (fun z : Int32 × zS => SI z.2) (fun c3 => ?_) (fun c3 => ?_)
      · skip
        refine zif_dep (fun z : Int32 × zS => SI z.2) (fun c4 => ?_) (fun c4 => ?_)
        · skip
          obtain ⟨x, rfl, hx, hx0⟩ := zIn_ex c1 (by decide)
          obtain ⟨y, rfl, hy, hy0⟩ := zIn_ex c2 (by decide)
          obtain ⟨k, rfl, hk, hk0⟩ := zIn_ex c3 (by decide)
          have h4 := i1.n4
          rw [zn_nI (n := y) (by omega), zn_nI (n := k) (by omega)] at c4
          rw [zn_nI (n := x) (by omega), zn_nI (n := y) (by omega), zn_nI (n := k) (by omega)]
          have hlt := (zll_0 c4).2
          refine (h.keep ha (by omega) (i1.word (by omega) (by omega) (by omega) (fun q hq => ?_)) ?_).st (by decide)
          · have := zIn_nat (hlt q hq) (Int.le_refl _)
            show zn _ < _
            omega
          · rw [va_upn (by omega)]
            unfold va_cpy
            rw [if_neg (by omega)]
            omega
        · skip
          exact h.st (zll_le _ _ _ _ _ _)
      · skip
        exact h
    · skip
      exact h
  · skip
    exact h
theorem SI.begin {S : zS} (h : SI S) (ha : S.1 8 < 24) (r n : Int32) : SI (opBegin S r n).2 := by
  have h0 := h
  obtain ⟨i1, i2, i3, i4, i5, i6, i7, i8, i9, i10, i11, i12⟩ := h0
  unfold opBegin
  refine zif_dep (fun z : Int32 × zS => SI z.2) (fun c1 => ?_) (fun c1 => ?_)
  · skip
    refine zif_dep (fun z : Int32 × zS => SI z.2) (fun c2 => ?_) (fun c2 => ?_)
    · skip
      refine zif_dep (fun z : Int32 × zS => SI z.2) (fun c3 => ?_) (fun c3 => ?_)
      · skip
        refine zif_dep (fun z : Int32 × zS => SI z.2) (fun c4 => ?_) (fun c4 => ?_)
        · skip
          obtain ⟨y, rfl, hy, hy0⟩ := zIn_ex c2 (by decide)
          obtain ⟨k, rfl, hk, hk0⟩ := zIn_ex c3 (by decide)
          rw [zn_nI (n := y) (by omega), zn_nI (n := k) (by omega)] at c4
          rw [zn_nI (n := y) (by omega), zn_nI (n := k) (by omega)]
          have hlt := (zll_0 c4).2
          refine (h.keep ha c1 (i1.begin (by omega) (by omega) (fun q hq => ?_)) ?_).st (by decide)
          · have := zIn_nat (hlt q hq) (Int.le_refl _)
            show zn _ < _
            omega
          · rw [va_upn (by omega)]
            unfold va_cpy
            rw [if_neg (by omega)]
            exact c1
        · skip
          exact h.st (zll_le _ _ _ _ _ _)
      · skip
        exact h
    · skip
      exact h
  · skip
    exact h
theorem SI.length {S : zS} (h : SI S) (ha : S.1 8 < 24) (s w v : Int32) : SI (opLength S s w v).2 := by
  have h0 := h
  obtain ⟨i1, i2, i3, i4, i5, i6, i7, i8, i9, i10, i11, i12⟩ := h0
  unfold opLength
  refine zif_dep (fun z : Int32 × zS => SI z.2) (fun c1 => ?_) (fun c1 => ?_)
  · skip
    refine zif_dep (fun z : Int32 × zS => SI z.2) (fun c2 => ?_) (fun c2 => ?_)
    · skip
      refine zif_dep (fun z : Int32 × zS => SI z.2) (fun c3 => ?_) (fun c3 => ?_)
      · skip
        obtain ⟨x, rfl, hx, hx0⟩ := zIn_ex c1 (by decide)
        obtain ⟨y, rfl, hy, hy0⟩ := zIn_ex c2 (by decide)
        obtain ⟨k, rfl, hk, hk0⟩ := zIn_ex c3 (by decide)
        have h4 := i1.n4
        rw [zn_nI (n := x) (by omega), zn_nI (n := y) (by omega), zn_nI (n := k) (by omega)]
        exact h.keep ha (by omega) (i1.len (by omega) (by omega) (by omega)) (by rw [va_upn (by omega)]; omega)
      · skip
        exact h
    · skip
      exact h
  · skip
    exact h
theorem SI.become {S : zS} (h : SI S) (ha : S.1 8 < 24) (s k : Int32) : SI (opBecome S s k).2 := by
  have h0 := h
  obtain ⟨i1, i2, i3, i4, i5, i6, i7, i8, i9, i10, i11, i12⟩ := h0
  unfold opBecome
  refine zif_dep (fun z : Int32 × zS => SI z.2) (fun c1 => ?_) (fun c1 => ?_)
  · skip
    refine zif_dep (fun z : Int32 × zS => SI z.2) (fun c2 => ?_) (fun c2 => ?_)
    · skip
      refine zif_dep (fun z : Int32 × zS => SI z.2) (fun c3 => ?_) (fun c3 => ?_)
      · skip
        exact h
      · skip
        obtain ⟨x, rfl, hx, hx0⟩ := zIn_ex c1 (by decide)
        obtain ⟨y, rfl, hy, hy0⟩ := zIn_ex c2 (by decide)
        have h4 := i1.n4
        rw [zn_nI (n := x) (by omega), zn_nI (n := y) (by omega)]
        exact h.keep ha (by omega) (i1.trKind (by omega) (by omega) (by omega)) (by rw [va_upn (by omega)]; omega)
    · skip
      exact h
  · skip
    exact h
theorem SI.root {S : zS} (h : SI S) (ha : S.1 8 < 24) (w v : Int32) : SI (opRoot S w v).2 := by
  have h0 := h
  obtain ⟨i1, i2, i3, i4, i5, i6, i7, i8, i9, i10, i11, i12⟩ := h0
  unfold opRoot
  refine zif_dep (fun z : Int32 × zS => SI z.2) (fun c1 => ?_) (fun c1 => ?_)
  · skip
    refine zif_dep (fun z : Int32 × zS => SI z.2) (fun c2 => ?_) (fun c2 => ?_)
    · skip
      refine zif_dep (fun z : Int32 × zS => SI z.2) (fun c3 => ?_) (fun c3 => ?_)
      · skip
        obtain ⟨y, rfl, hy, hy0⟩ := zIn_ex c2 (by decide)
        obtain ⟨k, rfl, hk, hk0⟩ := zIn_ex c3 (by omega)
        have hz : zif (zn (nI y) = 0) 3 9 ≤ 9 := zif_ind (fun z => z ≤ 9) (by decide) (by decide)
        rw [zn_nI (n := y) (by omega)] at hk hz ⊢
        rw [zn_nI (n := k) (by omega)]
        exact h.keep ha c1 (i1.root (by omega) (by omega)) (by rw [va_upn (by omega)]; exact c1)
      · skip
        exact h
    · skip
      exact h
  · skip
    exact h
theorem SI.inflate {S : zS} (h : SI S) (ha : S.1 8 < 24) : SI (opInflate S).2 := by
  have h0 := h
  obtain ⟨i1, i2, i3, i4, i5, i6, i7, i8, i9, i10, i11, i12⟩ := h0
  unfold opInflate
  refine zif_dep (fun z : Int32 × zS => SI z.2) (fun c1 => ?_) (fun c1 => ?_)
  · skip
    refine zif_dep (fun z : Int32 × zS => SI z.2) (fun c2 => ?_) (fun c2 => ?_)
    · skip
      have hA := lAll_grl i1 1
      have hr3 := i1.2.2.2.2.1 c1
      have hg : 1 ≤ (grl (S.2.1 4) 1).length := by
        have h9 := gro_pos i1 (lAll_grl i1 0)
        have h8 : (grl (S.2.1 4) 0).length = S.2.1 4 3 := by rw [grl_0]
        have h7 : (grl (S.2.1 4) 1).length = (gro (S.2.1 4) (grl (S.2.1 4) 0)).length := rfl
        omega
      exact h.keep ha c1 (i1.begin hg c2 (fun q hq => lAll_at hA hq)) (by rw [va_upn (by omega)]; unfold va_cpy; rw [if_neg (by omega)]; exact c1)
    · skip
      exact h
  · skip
    exact h
theorem SI.image {S : zS} (h : SI S) (k : Int32) : SI (opImage S k).2 := by
  have h0 := h
  obtain ⟨i1, i2, i3, i4, i5, i6, i7, i8, i9, i10, i11, i12⟩ := h0
  unfold opImage
  refine zif_dep (fun z : Int32 × zS => SI z.2) (fun c1 => ?_) (fun c1 => ?_)
  · skip
    refine zif_dep (fun z : Int32 × zS => SI z.2) (fun c2 => ?_) (fun c2 => ?_)
    · skip
      obtain ⟨y, rfl, hy, hy0⟩ := zIn_ex c1 (by decide)
      rw [zn_nI (n := y) (by omega)]
      refine ⟨i1, i2, i3, i4, i5, i6, i7, i8, fun q hq hk => ?_, i10, i11, i12⟩
      have e27 : (va_up S.2.1 27 (va_cpy (S.2.1 4) (S.2.1 27) 0 (44 * y) 44)) 27 = va_cpy (S.2.1 4) (S.2.1 27) 0 (44 * y) 44 := rfl
      show bOK (fun j => (va_up S.2.1 27 (va_cpy (S.2.1 4) (S.2.1 27) 0 (44 * y) 44)) 27 (44 * q + j)) ∧ 0 < (va_up S.2.1 27 (va_cpy (S.2.1 4) (S.2.1 27) 0 (44 * y) 44)) 27 (44 * q)
      rw [e27]
      by_cases e : q = y
      · refine ⟨i1.ext fun j hj => ?_, ?_⟩
        · rw [e, zcpy_in (by omega) (by omega), show 0 + (44 * y + j - 44 * y) = j by omega]
        · rw [e, zcpy_in (by omega) (by omega), show 0 + (44 * y - 44 * y) = 0 by omega]; exact c2
      · have hk : va_up S.2.2.2 y True q := hk
        rw [va_upn e] at hk
        have h9 := i9 q hq hk
        refine ⟨h9.1.ext fun j hj => ?_, ?_⟩
        · unfold va_cpy; rw [if_neg (by omega)]
        · unfold va_cpy; rw [if_neg (by omega)]; exact h9.2
    · skip
      exact h
  · skip
    exact h
theorem SI.restore {S : zS} (h : SI S) (k : Int32) : SI (opRestore S k).2 := by
  have h0 := h
  obtain ⟨i1, i2, i3, i4, i5, i6, i7, i8, i9, i10, i11, i12⟩ := h0
  unfold opRestore
  refine zif_dep (fun z : Int32 × zS => SI z.2) (fun c1 => ?_) (fun c1 => ?_)
  · skip
    refine zif_dep (fun z : Int32 × zS => SI z.2) (fun c2 => ?_) (fun c2 => ?_)
    · skip
      obtain ⟨y, rfl, hy, hy0⟩ := zIn_ex c1 (by decide)
      rw [zn_nI (n := y) (by omega)] at c2 ⊢
      have h9 := i9 y (by omega) c2
      exact ⟨h9.1, i2, Nat.zero_le _, i4, i5, i6, i7, fun i hi => absurd hi (Nat.not_lt_zero _), i9, i10, fun i hi => absurd hi (Nat.not_lt_zero _), fun hi => absurd hi (Nat.lt_irrefl 0)⟩
    · skip
      exact h
  · skip
    exact h
theorem SI.as {S : zS} (h : SI S) (s k : Int32) : SI (opAs S s k).2 := by
  have h0 := h
  obtain ⟨i1, i2, i3, i4, i5, i6, i7, i8, i9, i10, i11, i12⟩ := h0
  unfold opAs
  refine zif_dep (fun z : Int32 × zS => SI z.2) (fun c1 => ?_) (fun c1 => ?_)
  · skip
    refine zif_dep (fun z : Int32 × zS => SI z.2) (fun c2 => ?_) (fun c2 => ?_)
    · skip
      refine zif_dep (fun z : Int32 × zS => SI z.2) (fun c3 => ?_) (fun c3 => ?_)
      · skip
        exact h.st (by decide)
      · skip
        exact h.st (by decide)
    · skip
      exact h
  · skip
    exact h
theorem SI.back {S : zS} (h : SI S) (r n w : Int32) : SI (opBack S r n w).2 := by
  have h0 := h
  obtain ⟨i1, i2, i3, i4, i5, i6, i7, i8, i9, i10, i11, i12⟩ := h0
  unfold opBack
  refine zif_dep (fun z : Int32 × zS => SI z.2) (fun c1 => ?_) (fun c1 => ?_)
  · skip
    refine zif_dep (fun z : Int32 × zS => SI z.2) (fun c2 => ?_) (fun c2 => ?_)
    · skip
      refine zif_dep (fun z : Int32 × zS => SI z.2) (fun c3 => ?_) (fun c3 => ?_)
      · skip
        refine zif_dep (fun z : Int32 × zS => SI z.2) (fun c4 => ?_) (fun c4 => ?_)
        · skip
          refine zif_dep (fun z : Int32 × zS => SI z.2) (fun c5 => ?_) (fun c5 => ?_)
          · skip
            exact h.st (by decide)
          · skip
            exact h.st (zll_le _ _ _ _ _ _)
        · skip
          exact h
      · skip
        exact h
    · skip
      exact h
  · skip
    exact h
theorem SI.numbers {S : zS} (h : SI S) (s n : Int32) : SI (opNumbers S s n).2 := by
  have h0 := h
  obtain ⟨i1, i2, i3, i4, i5, i6, i7, i8, i9, i10, i11, i12⟩ := h0
  unfold opNumbers
  refine zif_dep (fun z : Int64 × zS => SI z.2) (fun c1 => ?_) (fun c1 => ?_)
  · skip
    refine zif_dep (fun z : Int64 × zS => SI z.2) (fun c2 => ?_) (fun c2 => ?_)
    · skip
      refine zif_dep (fun z : Int64 × zS => SI z.2) (fun c3 => ?_) (fun c3 => ?_)
      · skip
        exact h.st (by decide)
      · skip
        exact h.st (by decide)
    · skip
      exact h
  · skip
    exact h
theorem SI.share {S : zS} (h : SI S) (s n w : Int32) : SI (opShare S s n w).2 := by
  have h0 := h
  obtain ⟨i1, i2, i3, i4, i5, i6, i7, i8, i9, i10, i11, i12⟩ := h0
  unfold opShare
  refine zif_dep (fun z : Int64 × zS => SI z.2) (fun c1 => ?_) (fun c1 => ?_)
  · skip
    refine zif_dep (fun z : Int64 × zS => SI z.2) (fun c2 => ?_) (fun c2 => ?_)
    · skip
      refine zif_dep (fun z : Int64 × zS => SI z.2) (fun c3 => ?_) (fun c3 => ?_)
      · skip
        refine zif_dep (fun z : Int64 × zS => SI z.2) (fun c4 => ?_) (fun c4 => ?_)
        · skip
          exact h.st (by decide)
        · skip
          exact h.st (by decide)
      · skip
        exact h
    · skip
      exact h
  · skip
    exact h
theorem SI.all {S : zS} (h : SI S) (n w : Int32) : SI (opAll S n w).2 := by
  have h0 := h
  obtain ⟨i1, i2, i3, i4, i5, i6, i7, i8, i9, i10, i11, i12⟩ := h0
  unfold opAll
  refine zif_dep (fun z : Int64 × zS => SI z.2) (fun c1 => ?_) (fun c1 => ?_)
  · skip
    refine zif_dep (fun z : Int64 × zS => SI z.2) (fun c2 => ?_) (fun c2 => ?_)
    · skip
      refine zif_dep (fun z : Int64 × zS => SI z.2) (fun c3 => ?_) (fun c3 => ?_)
      · skip
        refine zif_dep (fun z : Int64 × zS => SI z.2) (fun c4 => ?_) (fun c4 => ?_)
        · skip
          exact h.st (by decide)
        · skip
          exact h.st (by decide)
      · skip
        exact h
    · skip
      exact h
  · skip
    exact h
theorem SI.ask {S : zS} (h : SI S) (s w : Int32) : SI (opAsk S s w).2 := by
  have h0 := h
  obtain ⟨i1, i2, i3, i4, i5, i6, i7, i8, i9, i10, i11, i12⟩ := h0
  unfold opAsk
  refine zif_dep (fun z : Int32 × zS => SI z.2) (fun c1 => ?_) (fun c1 => ?_)
  · skip
    refine zif_dep (fun z : Int32 × zS => SI z.2) (fun c2 => ?_) (fun c2 => ?_)
    · skip
      refine zif_dep (fun z : Int32 × zS => SI z.2) (fun c3 => ?_) (fun c3 => ?_)
      · skip
        refine ⟨i1, i2, i3, i4, i5, ?_, i7, i8, i9, i10, i11, i12⟩
        show (basl _).length ≤ 16
        obtain ⟨x, rfl, hx, hx0⟩ := zIn_ex c1 (by decide)
        rw [zn_nI (n := x) (by have := i1.n4; omega)]
        rcases b15 (i1.kd (x := x) (by omega)) with e | e | e | e | e <;> rw [e] <;> decide
      · skip
        refine ⟨i1, i2, i3, i4, i5, ?_, i7, i8, i9, i10, i11, i12⟩
        show (bmkl _).length ≤ 16
        obtain ⟨x, rfl, hx, hx0⟩ := zIn_ex c1 (by decide)
        rw [zn_nI (n := x) (by have := i1.n4; omega)]
        rcases b15 (i1.kd (x := x) (by omega)) with e | e | e | e | e <;> rw [e] <;> decide
    · skip
      exact h
  · skip
    exact h
theorem SI.who {S : zS} (h : SI S) (s x w n r m : Int32) : SI (opWho S s x w n r m).2 := by
  have h0 := h
  obtain ⟨i1, i2, i3, i4, i5, i6, i7, i8, i9, i10, i11, i12⟩ := h0
  unfold opWho
  refine zif_dep (fun z : Int32 × zS => SI z.2) (fun c1 => ?_) (fun c1 => ?_)
  · skip
    refine zif_dep (fun z : Int32 × zS => SI z.2) (fun c2 => ?_) (fun c2 => ?_)
    · skip
      refine zif_dep (fun z : Int32 × zS => SI z.2) (fun c3 => ?_) (fun c3 => ?_)
      · skip
        refine zif_dep (fun z : Int32 × zS => SI z.2) (fun c4 => ?_) (fun c4 => ?_)
        · skip
          refine zif_dep (fun z : Int32 × zS => SI z.2) (fun c5 => ?_) (fun c5 => ?_)
          · skip
            refine zif_dep (fun z : Int32 × zS => SI z.2) (fun c6 => ?_) (fun c6 => ?_)
            · skip
              exact h
            · skip
              refine zif_dep (fun z : Int32 × zS => SI z.2) (fun c7 => ?_) (fun c7 => ?_)
              · skip
                exact h.st (by decide)
              · skip
                exact h.st (zlk_le _ _ _ _)
          · skip
            exact h
        · skip
          exact h
      · skip
        exact h
    · skip
      exact h
  · skip
    exact h
theorem SI.grown {S : zS} (h : SI S) (n i : Int32) : SI (opGrown S n i).2 := by
  have h0 := h
  obtain ⟨i1, i2, i3, i4, i5, i6, i7, i8, i9, i10, i11, i12⟩ := h0
  unfold opGrown
  refine zif_dep (fun z : Int32 × zS => SI z.2) (fun c1 => ?_) (fun c1 => ?_)
  · skip
    refine zif_dep (fun z : Int32 × zS => SI z.2) (fun c2 => ?_) (fun c2 => ?_)
    · skip
      refine zif_dep (fun z : Int32 × zS => SI z.2) (fun c3 => ?_) (fun c3 => ?_)
      · skip
        refine zif_dep (fun z : Int32 × zS => SI z.2) (fun c4 => ?_) (fun c4 => ?_)
        · skip
          refine zif_dep (fun z : Int32 × zS => SI z.2) (fun c5 => ?_) (fun c5 => ?_)
          · skip
            exact h
          · skip
            refine zif_dep (fun z : Int32 × zS => SI z.2) (fun c6 => ?_) (fun c6 => ?_)
            · skip
              exact h
            · skip
              exact h
        · skip
          exact h
      · skip
        exact h
    · skip
      exact h
  · skip
    exact h
theorem SI.origin {S : zS} (h : SI S) (n i j : Int32) : SI (opOrigin S n i j).2 := by
  have h0 := h
  obtain ⟨i1, i2, i3, i4, i5, i6, i7, i8, i9, i10, i11, i12⟩ := h0
  unfold opOrigin
  refine zif_dep (fun z : Int32 × zS => SI z.2) (fun c1 => ?_) (fun c1 => ?_)
  · skip
    refine zif_dep (fun z : Int32 × zS => SI z.2) (fun c2 => ?_) (fun c2 => ?_)
    · skip
      refine zif_dep (fun z : Int32 × zS => SI z.2) (fun c3 => ?_) (fun c3 => ?_)
      · skip
        refine zif_dep (fun z : Int32 × zS => SI z.2) (fun c4 => ?_) (fun c4 => ?_)
        · skip
          refine zif_dep (fun z : Int32 × zS => SI z.2) (fun c5 => ?_) (fun c5 => ?_)
          · skip
            exact h
          · skip
            exact h
        · skip
          exact h
      · skip
        exact h
    · skip
      exact h
  · skip
    exact h
theorem SI.place {S : zS} (h : SI S) (n i w : Int32) : SI (opPlace S n i w).2 := by
  have h0 := h
  obtain ⟨i1, i2, i3, i4, i5, i6, i7, i8, i9, i10, i11, i12⟩ := h0
  unfold opPlace
  refine zif_dep (fun z : Int64 × zS => SI z.2) (fun c1 => ?_) (fun c1 => ?_)
  · skip
    refine zif_dep (fun z : Int64 × zS => SI z.2) (fun c2 => ?_) (fun c2 => ?_)
    · skip
      refine zif_dep (fun z : Int64 × zS => SI z.2) (fun c3 => ?_) (fun c3 => ?_)
      · skip
        exact h
      · skip
        refine zif_dep (fun z : Int64 × zS => SI z.2) (fun c4 => ?_) (fun c4 => ?_)
        · skip
          refine zif_dep (fun z : Int64 × zS => SI z.2) (fun c5 => ?_) (fun c5 => ?_)
          · skip
            refine zif_dep (fun z : Int64 × zS => SI z.2) (fun c6 => ?_) (fun c6 => ?_)
            · skip
              exact h
            · skip
              exact h
          · skip
            exact h
        · skip
          exact h
    · skip
      exact h
  · skip
    exact h
theorem SI.quiet {S : zS} (h : SI S) : SI (opQuiet S).2 := by
  have h0 := h
  obtain ⟨i1, i2, i3, i4, i5, i6, i7, i8, i9, i10, i11, i12⟩ := h0
  unfold opQuiet
  refine zif_dep (fun z : Int32 × zS => SI z.2) (fun c1 => ?_) (fun c1 => ?_)
  · skip
    exact h
  · skip
    exact h
theorem SI.drawn {S : zS} (h : SI S) (n x w : Int32) : SI (opDrawn S n x w).2 := by
  have h0 := h
  obtain ⟨i1, i2, i3, i4, i5, i6, i7, i8, i9, i10, i11, i12⟩ := h0
  unfold opDrawn
  refine zif_dep (fun z : Int32 × zS => SI z.2) (fun c1 => ?_) (fun c1 => ?_)
  · skip
    refine zif_dep (fun z : Int32 × zS => SI z.2) (fun c2 => ?_) (fun c2 => ?_)
    · skip
      refine zif_dep (fun z : Int32 × zS => SI z.2) (fun c3 => ?_) (fun c3 => ?_)
      · skip
        refine zif_dep (fun z : Int32 × zS => SI z.2) (fun c4 => ?_) (fun c4 => ?_)
        · skip
          exact h
        · skip
          exact h
      · skip
        exact h
    · skip
      exact h
  · skip
    exact h
theorem acts_row {S : zS} (r l n : Int32) : (opRow S r l n).2.1 8 ≤ S.1 8 + 1 := by
  unfold opRow
  refine zif_dep (fun z : Int32 × zS => z.2.1 8 ≤ S.1 8 + 1) (fun _ => ?_) (fun _ => ?_)
  · skip
    refine zif_dep (fun z : Int32 × zS => z.2.1 8 ≤ S.1 8 + 1) (fun _ => ?_) (fun _ => ?_)
    · skip
      refine zif_dep (fun z : Int32 × zS => z.2.1 8 ≤ S.1 8 + 1) (fun _ => ?_) (fun _ => ?_)
      · skip
        refine zif_dep (fun z : Int32 × zS => z.2.1 8 ≤ S.1 8 + 1) (fun _ => ?_) (fun _ => ?_)
        · skip
          first | exact Nat.le_succ _ | exact Nat.le_refl _ | exact Nat.zero_le _ | (show S.1 8 - 1 ≤ S.1 8 + 1; omega)
        · skip
          first | exact Nat.le_succ _ | exact Nat.le_refl _ | exact Nat.zero_le _ | (show S.1 8 - 1 ≤ S.1 8 + 1; omega)
      · skip
        first | exact Nat.le_succ _ | exact Nat.le_refl _ | exact Nat.zero_le _ | (show S.1 8 - 1 ≤ S.1 8 + 1; omega)
    · skip
      first | exact Nat.le_succ _ | exact Nat.le_refl _ | exact Nat.zero_le _ | (show S.1 8 - 1 ≤ S.1 8 + 1; omega)
  · skip
    first | exact Nat.le_succ _ | exact Nat.le_refl _ | exact Nat.zero_le _ | (show S.1 8 - 1 ≤ S.1 8 + 1; omega)
theorem acts_set {S : zS} (r i v : Int32) : (opSet S r i v).2.1 8 ≤ S.1 8 + 1 := by
  unfold opSet
  refine zif_dep (fun z : Int32 × zS => z.2.1 8 ≤ S.1 8 + 1) (fun _ => ?_) (fun _ => ?_)
  · skip
    refine zif_dep (fun z : Int32 × zS => z.2.1 8 ≤ S.1 8 + 1) (fun _ => ?_) (fun _ => ?_)
    · skip
      refine zif_dep (fun z : Int32 × zS => z.2.1 8 ≤ S.1 8 + 1) (fun _ => ?_) (fun _ => ?_)
      · skip
        first | exact Nat.le_succ _ | exact Nat.le_refl _ | exact Nat.zero_le _ | (show S.1 8 - 1 ≤ S.1 8 + 1; omega)
      · skip
        first | exact Nat.le_succ _ | exact Nat.le_refl _ | exact Nat.zero_le _ | (show S.1 8 - 1 ≤ S.1 8 + 1; omega)
    · skip
      first | exact Nat.le_succ _ | exact Nat.le_refl _ | exact Nat.zero_le _ | (show S.1 8 - 1 ≤ S.1 8 + 1; omega)
  · skip
    first | exact Nat.le_succ _ | exact Nat.le_refl _ | exact Nat.zero_le _ | (show S.1 8 - 1 ≤ S.1 8 + 1; omega)
theorem acts_copy {S : zS} (a i b j n : Int32) : (opCopy S a i b j n).2.1 8 ≤ S.1 8 + 1 := by
  unfold opCopy
  refine zif_dep (fun z : Int32 × zS => z.2.1 8 ≤ S.1 8 + 1) (fun _ => ?_) (fun _ => ?_)
  · skip
    refine zif_dep (fun z : Int32 × zS => z.2.1 8 ≤ S.1 8 + 1) (fun _ => ?_) (fun _ => ?_)
    · skip
      refine zif_dep (fun z : Int32 × zS => z.2.1 8 ≤ S.1 8 + 1) (fun _ => ?_) (fun _ => ?_)
      · skip
        first | exact Nat.le_succ _ | exact Nat.le_refl _ | exact Nat.zero_le _ | (show S.1 8 - 1 ≤ S.1 8 + 1; omega)
      · skip
        refine zif_dep (fun z : Int32 × zS => z.2.1 8 ≤ S.1 8 + 1) (fun _ => ?_) (fun _ => ?_)
        · skip
          refine zif_dep (fun z : Int32 × zS => z.2.1 8 ≤ S.1 8 + 1) (fun _ => ?_) (fun _ => ?_)
          · skip
            refine zif_dep (fun z : Int32 × zS => z.2.1 8 ≤ S.1 8 + 1) (fun _ => ?_) (fun _ => ?_)
            · skip
              first | exact Nat.le_succ _ | exact Nat.le_refl _ | exact Nat.zero_le _ | (show S.1 8 - 1 ≤ S.1 8 + 1; omega)
            · skip
              first | exact Nat.le_succ _ | exact Nat.le_refl _ | exact Nat.zero_le _ | (show S.1 8 - 1 ≤ S.1 8 + 1; omega)
          · skip
            first | exact Nat.le_succ _ | exact Nat.le_refl _ | exact Nat.zero_le _ | (show S.1 8 - 1 ≤ S.1 8 + 1; omega)
        · skip
          first | exact Nat.le_succ _ | exact Nat.le_refl _ | exact Nat.zero_le _ | (show S.1 8 - 1 ≤ S.1 8 + 1; omega)
    · skip
      first | exact Nat.le_succ _ | exact Nat.le_refl _ | exact Nat.zero_le _ | (show S.1 8 - 1 ≤ S.1 8 + 1; omega)
  · skip
    first | exact Nat.le_succ _ | exact Nat.le_refl _ | exact Nat.zero_le _ | (show S.1 8 - 1 ≤ S.1 8 + 1; omega)
theorem acts_drop {S : zS} (r : Int32) : (opDrop S r).2.1 8 ≤ S.1 8 + 1 := by
  unfold opDrop
  refine zif_dep (fun z : Int32 × zS => z.2.1 8 ≤ S.1 8 + 1) (fun _ => ?_) (fun _ => ?_)
  · skip
    refine zif_dep (fun z : Int32 × zS => z.2.1 8 ≤ S.1 8 + 1) (fun _ => ?_) (fun _ => ?_)
    · skip
      first | exact Nat.le_succ _ | exact Nat.le_refl _ | exact Nat.zero_le _ | (show S.1 8 - 1 ≤ S.1 8 + 1; omega)
    · skip
      first | exact Nat.le_succ _ | exact Nat.le_refl _ | exact Nat.zero_le _ | (show S.1 8 - 1 ≤ S.1 8 + 1; omega)
  · skip
    first | exact Nat.le_succ _ | exact Nat.le_refl _ | exact Nat.zero_le _ | (show S.1 8 - 1 ≤ S.1 8 + 1; omega)
theorem acts_feed {S : zS} (w : Int32) : (opFeed S w).2.1 8 ≤ S.1 8 + 1 := by
  unfold opFeed
  refine zif_dep (fun z : Int32 × zS => z.2.1 8 ≤ S.1 8 + 1) (fun _ => ?_) (fun _ => ?_)
  · skip
    refine zif_dep (fun z : Int32 × zS => z.2.1 8 ≤ S.1 8 + 1) (fun _ => ?_) (fun _ => ?_)
    · skip
      first | exact Nat.le_succ _ | exact Nat.le_refl _ | exact Nat.zero_le _ | (show S.1 8 - 1 ≤ S.1 8 + 1; omega)
    · skip
      first | exact Nat.le_succ _ | exact Nat.le_refl _ | exact Nat.zero_le _ | (show S.1 8 - 1 ≤ S.1 8 + 1; omega)
  · skip
    first | exact Nat.le_succ _ | exact Nat.le_refl _ | exact Nat.zero_le _ | (show S.1 8 - 1 ≤ S.1 8 + 1; omega)
theorem acts_undo {S : zS} : (opUndo S).2.1 8 ≤ S.1 8 + 1 := by
  unfold opUndo
  refine zif_dep (fun z : Int32 × zS => z.2.1 8 ≤ S.1 8 + 1) (fun _ => ?_) (fun _ => ?_)
  · skip
    first | exact Nat.le_succ _ | exact Nat.le_refl _ | exact Nat.zero_le _ | (show S.1 8 - 1 ≤ S.1 8 + 1; omega)
  · skip
    first | exact Nat.le_succ _ | exact Nat.le_refl _ | exact Nat.zero_le _ | (show S.1 8 - 1 ≤ S.1 8 + 1; omega)
theorem acts_word {S : zS} (s r n : Int32) : (opWord S s r n).2.1 8 ≤ S.1 8 + 1 := by
  unfold opWord
  refine zif_dep (fun z : Int32 × zS => z.2.1 8 ≤ S.1 8 + 1) (fun _ => ?_) (fun _ => ?_)
  · skip
    refine zif_dep (fun z : Int32 × zS => z.2.1 8 ≤ S.1 8 + 1) (fun _ => ?_) (fun _ => ?_)
    · skip
      refine zif_dep (fun z : Int32 × zS => z.2.1 8 ≤ S.1 8 + 1) (fun _ => ?_) (fun _ => ?_)
      · skip
        refine zif_dep (fun z : Int32 × zS => z.2.1 8 ≤ S.1 8 + 1) (fun _ => ?_) (fun _ => ?_)
        · skip
          first | exact Nat.le_succ _ | exact Nat.le_refl _ | exact Nat.zero_le _ | (show S.1 8 - 1 ≤ S.1 8 + 1; omega)
        · skip
          first | exact Nat.le_succ _ | exact Nat.le_refl _ | exact Nat.zero_le _ | (show S.1 8 - 1 ≤ S.1 8 + 1; omega)
      · skip
        first | exact Nat.le_succ _ | exact Nat.le_refl _ | exact Nat.zero_le _ | (show S.1 8 - 1 ≤ S.1 8 + 1; omega)
    · skip
      first | exact Nat.le_succ _ | exact Nat.le_refl _ | exact Nat.zero_le _ | (show S.1 8 - 1 ≤ S.1 8 + 1; omega)
  · skip
    first | exact Nat.le_succ _ | exact Nat.le_refl _ | exact Nat.zero_le _ | (show S.1 8 - 1 ≤ S.1 8 + 1; omega)
theorem acts_begin {S : zS} (r n : Int32) : (opBegin S r n).2.1 8 ≤ S.1 8 + 1 := by
  unfold opBegin
  refine zif_dep (fun z : Int32 × zS => z.2.1 8 ≤ S.1 8 + 1) (fun _ => ?_) (fun _ => ?_)
  · skip
    refine zif_dep (fun z : Int32 × zS => z.2.1 8 ≤ S.1 8 + 1) (fun _ => ?_) (fun _ => ?_)
    · skip
      refine zif_dep (fun z : Int32 × zS => z.2.1 8 ≤ S.1 8 + 1) (fun _ => ?_) (fun _ => ?_)
      · skip
        refine zif_dep (fun z : Int32 × zS => z.2.1 8 ≤ S.1 8 + 1) (fun _ => ?_) (fun _ => ?_)
        · skip
          first | exact Nat.le_succ _ | exact Nat.le_refl _ | exact Nat.zero_le _ | (show S.1 8 - 1 ≤ S.1 8 + 1; omega)
        · skip
          first | exact Nat.le_succ _ | exact Nat.le_refl _ | exact Nat.zero_le _ | (show S.1 8 - 1 ≤ S.1 8 + 1; omega)
      · skip
        first | exact Nat.le_succ _ | exact Nat.le_refl _ | exact Nat.zero_le _ | (show S.1 8 - 1 ≤ S.1 8 + 1; omega)
    · skip
      first | exact Nat.le_succ _ | exact Nat.le_refl _ | exact Nat.zero_le _ | (show S.1 8 - 1 ≤ S.1 8 + 1; omega)
  · skip
    first | exact Nat.le_succ _ | exact Nat.le_refl _ | exact Nat.zero_le _ | (show S.1 8 - 1 ≤ S.1 8 + 1; omega)
theorem acts_length {S : zS} (s w v : Int32) : (opLength S s w v).2.1 8 ≤ S.1 8 + 1 := by
  unfold opLength
  refine zif_dep (fun z : Int32 × zS => z.2.1 8 ≤ S.1 8 + 1) (fun _ => ?_) (fun _ => ?_)
  · skip
    refine zif_dep (fun z : Int32 × zS => z.2.1 8 ≤ S.1 8 + 1) (fun _ => ?_) (fun _ => ?_)
    · skip
      refine zif_dep (fun z : Int32 × zS => z.2.1 8 ≤ S.1 8 + 1) (fun _ => ?_) (fun _ => ?_)
      · skip
        first | exact Nat.le_succ _ | exact Nat.le_refl _ | exact Nat.zero_le _ | (show S.1 8 - 1 ≤ S.1 8 + 1; omega)
      · skip
        first | exact Nat.le_succ _ | exact Nat.le_refl _ | exact Nat.zero_le _ | (show S.1 8 - 1 ≤ S.1 8 + 1; omega)
    · skip
      first | exact Nat.le_succ _ | exact Nat.le_refl _ | exact Nat.zero_le _ | (show S.1 8 - 1 ≤ S.1 8 + 1; omega)
  · skip
    first | exact Nat.le_succ _ | exact Nat.le_refl _ | exact Nat.zero_le _ | (show S.1 8 - 1 ≤ S.1 8 + 1; omega)
theorem acts_become {S : zS} (s k : Int32) : (opBecome S s k).2.1 8 ≤ S.1 8 + 1 := by
  unfold opBecome
  refine zif_dep (fun z : Int32 × zS => z.2.1 8 ≤ S.1 8 + 1) (fun _ => ?_) (fun _ => ?_)
  · skip
    refine zif_dep (fun z : Int32 × zS => z.2.1 8 ≤ S.1 8 + 1) (fun _ => ?_) (fun _ => ?_)
    · skip
      refine zif_dep (fun z : Int32 × zS => z.2.1 8 ≤ S.1 8 + 1) (fun _ => ?_) (fun _ => ?_)
      · skip
        first | exact Nat.le_succ _ | exact Nat.le_refl _ | exact Nat.zero_le _ | (show S.1 8 - 1 ≤ S.1 8 + 1; omega)
      · skip
        first | exact Nat.le_succ _ | exact Nat.le_refl _ | exact Nat.zero_le _ | (show S.1 8 - 1 ≤ S.1 8 + 1; omega)
    · skip
      first | exact Nat.le_succ _ | exact Nat.le_refl _ | exact Nat.zero_le _ | (show S.1 8 - 1 ≤ S.1 8 + 1; omega)
  · skip
    first | exact Nat.le_succ _ | exact Nat.le_refl _ | exact Nat.zero_le _ | (show S.1 8 - 1 ≤ S.1 8 + 1; omega)
theorem acts_root {S : zS} (w v : Int32) : (opRoot S w v).2.1 8 ≤ S.1 8 + 1 := by
  unfold opRoot
  refine zif_dep (fun z : Int32 × zS => z.2.1 8 ≤ S.1 8 + 1) (fun _ => ?_) (fun _ => ?_)
  · skip
    refine zif_dep (fun z : Int32 × zS => z.2.1 8 ≤ S.1 8 + 1) (fun _ => ?_) (fun _ => ?_)
    · skip
      refine zif_dep (fun z : Int32 × zS => z.2.1 8 ≤ S.1 8 + 1) (fun _ => ?_) (fun _ => ?_)
      · skip
        first | exact Nat.le_succ _ | exact Nat.le_refl _ | exact Nat.zero_le _ | (show S.1 8 - 1 ≤ S.1 8 + 1; omega)
      · skip
        first | exact Nat.le_succ _ | exact Nat.le_refl _ | exact Nat.zero_le _ | (show S.1 8 - 1 ≤ S.1 8 + 1; omega)
    · skip
      first | exact Nat.le_succ _ | exact Nat.le_refl _ | exact Nat.zero_le _ | (show S.1 8 - 1 ≤ S.1 8 + 1; omega)
  · skip
    first | exact Nat.le_succ _ | exact Nat.le_refl _ | exact Nat.zero_le _ | (show S.1 8 - 1 ≤ S.1 8 + 1; omega)
theorem acts_inflate {S : zS} : (opInflate S).2.1 8 ≤ S.1 8 + 1 := by
  unfold opInflate
  refine zif_dep (fun z : Int32 × zS => z.2.1 8 ≤ S.1 8 + 1) (fun _ => ?_) (fun _ => ?_)
  · skip
    refine zif_dep (fun z : Int32 × zS => z.2.1 8 ≤ S.1 8 + 1) (fun _ => ?_) (fun _ => ?_)
    · skip
      first | exact Nat.le_succ _ | exact Nat.le_refl _ | exact Nat.zero_le _ | (show S.1 8 - 1 ≤ S.1 8 + 1; omega)
    · skip
      first | exact Nat.le_succ _ | exact Nat.le_refl _ | exact Nat.zero_le _ | (show S.1 8 - 1 ≤ S.1 8 + 1; omega)
  · skip
    first | exact Nat.le_succ _ | exact Nat.le_refl _ | exact Nat.zero_le _ | (show S.1 8 - 1 ≤ S.1 8 + 1; omega)
theorem acts_image {S : zS} (k : Int32) : (opImage S k).2.1 8 ≤ S.1 8 + 1 := by
  unfold opImage
  refine zif_dep (fun z : Int32 × zS => z.2.1 8 ≤ S.1 8 + 1) (fun _ => ?_) (fun _ => ?_)
  · skip
    refine zif_dep (fun z : Int32 × zS => z.2.1 8 ≤ S.1 8 + 1) (fun _ => ?_) (fun _ => ?_)
    · skip
      first | exact Nat.le_succ _ | exact Nat.le_refl _ | exact Nat.zero_le _ | (show S.1 8 - 1 ≤ S.1 8 + 1; omega)
    · skip
      first | exact Nat.le_succ _ | exact Nat.le_refl _ | exact Nat.zero_le _ | (show S.1 8 - 1 ≤ S.1 8 + 1; omega)
  · skip
    first | exact Nat.le_succ _ | exact Nat.le_refl _ | exact Nat.zero_le _ | (show S.1 8 - 1 ≤ S.1 8 + 1; omega)
theorem acts_restore {S : zS} (k : Int32) : (opRestore S k).2.1 8 ≤ S.1 8 + 1 := by
  unfold opRestore
  refine zif_dep (fun z : Int32 × zS => z.2.1 8 ≤ S.1 8 + 1) (fun _ => ?_) (fun _ => ?_)
  · skip
    refine zif_dep (fun z : Int32 × zS => z.2.1 8 ≤ S.1 8 + 1) (fun _ => ?_) (fun _ => ?_)
    · skip
      first | exact Nat.le_succ _ | exact Nat.le_refl _ | exact Nat.zero_le _ | (show S.1 8 - 1 ≤ S.1 8 + 1; omega)
    · skip
      first | exact Nat.le_succ _ | exact Nat.le_refl _ | exact Nat.zero_le _ | (show S.1 8 - 1 ≤ S.1 8 + 1; omega)
  · skip
    first | exact Nat.le_succ _ | exact Nat.le_refl _ | exact Nat.zero_le _ | (show S.1 8 - 1 ≤ S.1 8 + 1; omega)
theorem acts_as {S : zS} (s k : Int32) : (opAs S s k).2.1 8 ≤ S.1 8 + 1 := by
  unfold opAs
  refine zif_dep (fun z : Int32 × zS => z.2.1 8 ≤ S.1 8 + 1) (fun _ => ?_) (fun _ => ?_)
  · skip
    refine zif_dep (fun z : Int32 × zS => z.2.1 8 ≤ S.1 8 + 1) (fun _ => ?_) (fun _ => ?_)
    · skip
      refine zif_dep (fun z : Int32 × zS => z.2.1 8 ≤ S.1 8 + 1) (fun _ => ?_) (fun _ => ?_)
      · skip
        first | exact Nat.le_succ _ | exact Nat.le_refl _ | exact Nat.zero_le _ | (show S.1 8 - 1 ≤ S.1 8 + 1; omega)
      · skip
        first | exact Nat.le_succ _ | exact Nat.le_refl _ | exact Nat.zero_le _ | (show S.1 8 - 1 ≤ S.1 8 + 1; omega)
    · skip
      first | exact Nat.le_succ _ | exact Nat.le_refl _ | exact Nat.zero_le _ | (show S.1 8 - 1 ≤ S.1 8 + 1; omega)
  · skip
    first | exact Nat.le_succ _ | exact Nat.le_refl _ | exact Nat.zero_le _ | (show S.1 8 - 1 ≤ S.1 8 + 1; omega)
theorem acts_back {S : zS} (r n w : Int32) : (opBack S r n w).2.1 8 ≤ S.1 8 + 1 := by
  unfold opBack
  refine zif_dep (fun z : Int32 × zS => z.2.1 8 ≤ S.1 8 + 1) (fun _ => ?_) (fun _ => ?_)
  · skip
    refine zif_dep (fun z : Int32 × zS => z.2.1 8 ≤ S.1 8 + 1) (fun _ => ?_) (fun _ => ?_)
    · skip
      refine zif_dep (fun z : Int32 × zS => z.2.1 8 ≤ S.1 8 + 1) (fun _ => ?_) (fun _ => ?_)
      · skip
        refine zif_dep (fun z : Int32 × zS => z.2.1 8 ≤ S.1 8 + 1) (fun _ => ?_) (fun _ => ?_)
        · skip
          refine zif_dep (fun z : Int32 × zS => z.2.1 8 ≤ S.1 8 + 1) (fun _ => ?_) (fun _ => ?_)
          · skip
            first | exact Nat.le_succ _ | exact Nat.le_refl _ | exact Nat.zero_le _ | (show S.1 8 - 1 ≤ S.1 8 + 1; omega)
          · skip
            first | exact Nat.le_succ _ | exact Nat.le_refl _ | exact Nat.zero_le _ | (show S.1 8 - 1 ≤ S.1 8 + 1; omega)
        · skip
          first | exact Nat.le_succ _ | exact Nat.le_refl _ | exact Nat.zero_le _ | (show S.1 8 - 1 ≤ S.1 8 + 1; omega)
      · skip
        first | exact Nat.le_succ _ | exact Nat.le_refl _ | exact Nat.zero_le _ | (show S.1 8 - 1 ≤ S.1 8 + 1; omega)
    · skip
      first | exact Nat.le_succ _ | exact Nat.le_refl _ | exact Nat.zero_le _ | (show S.1 8 - 1 ≤ S.1 8 + 1; omega)
  · skip
    first | exact Nat.le_succ _ | exact Nat.le_refl _ | exact Nat.zero_le _ | (show S.1 8 - 1 ≤ S.1 8 + 1; omega)
theorem acts_numbers {S : zS} (s n : Int32) : (opNumbers S s n).2.1 8 ≤ S.1 8 + 1 := by
  unfold opNumbers
  refine zif_dep (fun z : Int64 × zS => z.2.1 8 ≤ S.1 8 + 1) (fun _ => ?_) (fun _ => ?_)
  · skip
    refine zif_dep (fun z : Int64 × zS => z.2.1 8 ≤ S.1 8 + 1) (fun _ => ?_) (fun _ => ?_)
    · skip
      refine zif_dep (fun z : Int64 × zS => z.2.1 8 ≤ S.1 8 + 1) (fun _ => ?_) (fun _ => ?_)
      · skip
        first | exact Nat.le_succ _ | exact Nat.le_refl _ | exact Nat.zero_le _ | (show S.1 8 - 1 ≤ S.1 8 + 1; omega)
      · skip
        first | exact Nat.le_succ _ | exact Nat.le_refl _ | exact Nat.zero_le _ | (show S.1 8 - 1 ≤ S.1 8 + 1; omega)
    · skip
      first | exact Nat.le_succ _ | exact Nat.le_refl _ | exact Nat.zero_le _ | (show S.1 8 - 1 ≤ S.1 8 + 1; omega)
  · skip
    first | exact Nat.le_succ _ | exact Nat.le_refl _ | exact Nat.zero_le _ | (show S.1 8 - 1 ≤ S.1 8 + 1; omega)
theorem acts_share {S : zS} (s n w : Int32) : (opShare S s n w).2.1 8 ≤ S.1 8 + 1 := by
  unfold opShare
  refine zif_dep (fun z : Int64 × zS => z.2.1 8 ≤ S.1 8 + 1) (fun _ => ?_) (fun _ => ?_)
  · skip
    refine zif_dep (fun z : Int64 × zS => z.2.1 8 ≤ S.1 8 + 1) (fun _ => ?_) (fun _ => ?_)
    · skip
      refine zif_dep (fun z : Int64 × zS => z.2.1 8 ≤ S.1 8 + 1) (fun _ => ?_) (fun _ => ?_)
      · skip
        refine zif_dep (fun z : Int64 × zS => z.2.1 8 ≤ S.1 8 + 1) (fun _ => ?_) (fun _ => ?_)
        · skip
          first | exact Nat.le_succ _ | exact Nat.le_refl _ | exact Nat.zero_le _ | (show S.1 8 - 1 ≤ S.1 8 + 1; omega)
        · skip
          first | exact Nat.le_succ _ | exact Nat.le_refl _ | exact Nat.zero_le _ | (show S.1 8 - 1 ≤ S.1 8 + 1; omega)
      · skip
        first | exact Nat.le_succ _ | exact Nat.le_refl _ | exact Nat.zero_le _ | (show S.1 8 - 1 ≤ S.1 8 + 1; omega)
    · skip
      first | exact Nat.le_succ _ | exact Nat.le_refl _ | exact Nat.zero_le _ | (show S.1 8 - 1 ≤ S.1 8 + 1; omega)
  · skip
    first | exact Nat.le_succ _ | exact Nat.le_refl _ | exact Nat.zero_le _ | (show S.1 8 - 1 ≤ S.1 8 + 1; omega)
theorem acts_all {S : zS} (n w : Int32) : (opAll S n w).2.1 8 ≤ S.1 8 + 1 := by
  unfold opAll
  refine zif_dep (fun z : Int64 × zS => z.2.1 8 ≤ S.1 8 + 1) (fun _ => ?_) (fun _ => ?_)
  · skip
    refine zif_dep (fun z : Int64 × zS => z.2.1 8 ≤ S.1 8 + 1) (fun _ => ?_) (fun _ => ?_)
    · skip
      refine zif_dep (fun z : Int64 × zS => z.2.1 8 ≤ S.1 8 + 1) (fun _ => ?_) (fun _ => ?_)
      · skip
        refine zif_dep (fun z : Int64 × zS => z.2.1 8 ≤ S.1 8 + 1) (fun _ => ?_) (fun _ => ?_)
        · skip
          first | exact Nat.le_succ _ | exact Nat.le_refl _ | exact Nat.zero_le _ | (show S.1 8 - 1 ≤ S.1 8 + 1; omega)
        · skip
          first | exact Nat.le_succ _ | exact Nat.le_refl _ | exact Nat.zero_le _ | (show S.1 8 - 1 ≤ S.1 8 + 1; omega)
      · skip
        first | exact Nat.le_succ _ | exact Nat.le_refl _ | exact Nat.zero_le _ | (show S.1 8 - 1 ≤ S.1 8 + 1; omega)
    · skip
      first | exact Nat.le_succ _ | exact Nat.le_refl _ | exact Nat.zero_le _ | (show S.1 8 - 1 ≤ S.1 8 + 1; omega)
  · skip
    first | exact Nat.le_succ _ | exact Nat.le_refl _ | exact Nat.zero_le _ | (show S.1 8 - 1 ≤ S.1 8 + 1; omega)
theorem acts_ask {S : zS} (s w : Int32) : (opAsk S s w).2.1 8 ≤ S.1 8 + 1 := by
  unfold opAsk
  refine zif_dep (fun z : Int32 × zS => z.2.1 8 ≤ S.1 8 + 1) (fun _ => ?_) (fun _ => ?_)
  · skip
    refine zif_dep (fun z : Int32 × zS => z.2.1 8 ≤ S.1 8 + 1) (fun _ => ?_) (fun _ => ?_)
    · skip
      refine zif_dep (fun z : Int32 × zS => z.2.1 8 ≤ S.1 8 + 1) (fun _ => ?_) (fun _ => ?_)
      · skip
        first | exact Nat.le_succ _ | exact Nat.le_refl _ | exact Nat.zero_le _ | (show S.1 8 - 1 ≤ S.1 8 + 1; omega)
      · skip
        first | exact Nat.le_succ _ | exact Nat.le_refl _ | exact Nat.zero_le _ | (show S.1 8 - 1 ≤ S.1 8 + 1; omega)
    · skip
      first | exact Nat.le_succ _ | exact Nat.le_refl _ | exact Nat.zero_le _ | (show S.1 8 - 1 ≤ S.1 8 + 1; omega)
  · skip
    first | exact Nat.le_succ _ | exact Nat.le_refl _ | exact Nat.zero_le _ | (show S.1 8 - 1 ≤ S.1 8 + 1; omega)
theorem acts_who {S : zS} (s x w n r m : Int32) : (opWho S s x w n r m).2.1 8 ≤ S.1 8 + 1 := by
  unfold opWho
  refine zif_dep (fun z : Int32 × zS => z.2.1 8 ≤ S.1 8 + 1) (fun _ => ?_) (fun _ => ?_)
  · skip
    refine zif_dep (fun z : Int32 × zS => z.2.1 8 ≤ S.1 8 + 1) (fun _ => ?_) (fun _ => ?_)
    · skip
      refine zif_dep (fun z : Int32 × zS => z.2.1 8 ≤ S.1 8 + 1) (fun _ => ?_) (fun _ => ?_)
      · skip
        refine zif_dep (fun z : Int32 × zS => z.2.1 8 ≤ S.1 8 + 1) (fun _ => ?_) (fun _ => ?_)
        · skip
          refine zif_dep (fun z : Int32 × zS => z.2.1 8 ≤ S.1 8 + 1) (fun _ => ?_) (fun _ => ?_)
          · skip
            refine zif_dep (fun z : Int32 × zS => z.2.1 8 ≤ S.1 8 + 1) (fun _ => ?_) (fun _ => ?_)
            · skip
              first | exact Nat.le_succ _ | exact Nat.le_refl _ | exact Nat.zero_le _ | (show S.1 8 - 1 ≤ S.1 8 + 1; omega)
            · skip
              refine zif_dep (fun z : Int32 × zS => z.2.1 8 ≤ S.1 8 + 1) (fun _ => ?_) (fun _ => ?_)
              · skip
                first | exact Nat.le_succ _ | exact Nat.le_refl _ | exact Nat.zero_le _ | (show S.1 8 - 1 ≤ S.1 8 + 1; omega)
              · skip
                first | exact Nat.le_succ _ | exact Nat.le_refl _ | exact Nat.zero_le _ | (show S.1 8 - 1 ≤ S.1 8 + 1; omega)
          · skip
            first | exact Nat.le_succ _ | exact Nat.le_refl _ | exact Nat.zero_le _ | (show S.1 8 - 1 ≤ S.1 8 + 1; omega)
        · skip
          first | exact Nat.le_succ _ | exact Nat.le_refl _ | exact Nat.zero_le _ | (show S.1 8 - 1 ≤ S.1 8 + 1; omega)
      · skip
        first | exact Nat.le_succ _ | exact Nat.le_refl _ | exact Nat.zero_le _ | (show S.1 8 - 1 ≤ S.1 8 + 1; omega)
    · skip
      first | exact Nat.le_succ _ | exact Nat.le_refl _ | exact Nat.zero_le _ | (show S.1 8 - 1 ≤ S.1 8 + 1; omega)
  · skip
    first | exact Nat.le_succ _ | exact Nat.le_refl _ | exact Nat.zero_le _ | (show S.1 8 - 1 ≤ S.1 8 + 1; omega)
theorem acts_grown {S : zS} (n i : Int32) : (opGrown S n i).2.1 8 ≤ S.1 8 + 1 := by
  unfold opGrown
  refine zif_dep (fun z : Int32 × zS => z.2.1 8 ≤ S.1 8 + 1) (fun _ => ?_) (fun _ => ?_)
  · skip
    refine zif_dep (fun z : Int32 × zS => z.2.1 8 ≤ S.1 8 + 1) (fun _ => ?_) (fun _ => ?_)
    · skip
      refine zif_dep (fun z : Int32 × zS => z.2.1 8 ≤ S.1 8 + 1) (fun _ => ?_) (fun _ => ?_)
      · skip
        refine zif_dep (fun z : Int32 × zS => z.2.1 8 ≤ S.1 8 + 1) (fun _ => ?_) (fun _ => ?_)
        · skip
          refine zif_dep (fun z : Int32 × zS => z.2.1 8 ≤ S.1 8 + 1) (fun _ => ?_) (fun _ => ?_)
          · skip
            first | exact Nat.le_succ _ | exact Nat.le_refl _ | exact Nat.zero_le _ | (show S.1 8 - 1 ≤ S.1 8 + 1; omega)
          · skip
            refine zif_dep (fun z : Int32 × zS => z.2.1 8 ≤ S.1 8 + 1) (fun _ => ?_) (fun _ => ?_)
            · skip
              first | exact Nat.le_succ _ | exact Nat.le_refl _ | exact Nat.zero_le _ | (show S.1 8 - 1 ≤ S.1 8 + 1; omega)
            · skip
              first | exact Nat.le_succ _ | exact Nat.le_refl _ | exact Nat.zero_le _ | (show S.1 8 - 1 ≤ S.1 8 + 1; omega)
        · skip
          first | exact Nat.le_succ _ | exact Nat.le_refl _ | exact Nat.zero_le _ | (show S.1 8 - 1 ≤ S.1 8 + 1; omega)
      · skip
        first | exact Nat.le_succ _ | exact Nat.le_refl _ | exact Nat.zero_le _ | (show S.1 8 - 1 ≤ S.1 8 + 1; omega)
    · skip
      first | exact Nat.le_succ _ | exact Nat.le_refl _ | exact Nat.zero_le _ | (show S.1 8 - 1 ≤ S.1 8 + 1; omega)
  · skip
    first | exact Nat.le_succ _ | exact Nat.le_refl _ | exact Nat.zero_le _ | (show S.1 8 - 1 ≤ S.1 8 + 1; omega)
theorem acts_origin {S : zS} (n i j : Int32) : (opOrigin S n i j).2.1 8 ≤ S.1 8 + 1 := by
  unfold opOrigin
  refine zif_dep (fun z : Int32 × zS => z.2.1 8 ≤ S.1 8 + 1) (fun _ => ?_) (fun _ => ?_)
  · skip
    refine zif_dep (fun z : Int32 × zS => z.2.1 8 ≤ S.1 8 + 1) (fun _ => ?_) (fun _ => ?_)
    · skip
      refine zif_dep (fun z : Int32 × zS => z.2.1 8 ≤ S.1 8 + 1) (fun _ => ?_) (fun _ => ?_)
      · skip
        refine zif_dep (fun z : Int32 × zS => z.2.1 8 ≤ S.1 8 + 1) (fun _ => ?_) (fun _ => ?_)
        · skip
          refine zif_dep (fun z : Int32 × zS => z.2.1 8 ≤ S.1 8 + 1) (fun _ => ?_) (fun _ => ?_)
          · skip
            first | exact Nat.le_succ _ | exact Nat.le_refl _ | exact Nat.zero_le _ | (show S.1 8 - 1 ≤ S.1 8 + 1; omega)
          · skip
            first | exact Nat.le_succ _ | exact Nat.le_refl _ | exact Nat.zero_le _ | (show S.1 8 - 1 ≤ S.1 8 + 1; omega)
        · skip
          first | exact Nat.le_succ _ | exact Nat.le_refl _ | exact Nat.zero_le _ | (show S.1 8 - 1 ≤ S.1 8 + 1; omega)
      · skip
        first | exact Nat.le_succ _ | exact Nat.le_refl _ | exact Nat.zero_le _ | (show S.1 8 - 1 ≤ S.1 8 + 1; omega)
    · skip
      first | exact Nat.le_succ _ | exact Nat.le_refl _ | exact Nat.zero_le _ | (show S.1 8 - 1 ≤ S.1 8 + 1; omega)
  · skip
    first | exact Nat.le_succ _ | exact Nat.le_refl _ | exact Nat.zero_le _ | (show S.1 8 - 1 ≤ S.1 8 + 1; omega)
theorem acts_place {S : zS} (n i w : Int32) : (opPlace S n i w).2.1 8 ≤ S.1 8 + 1 := by
  unfold opPlace
  refine zif_dep (fun z : Int64 × zS => z.2.1 8 ≤ S.1 8 + 1) (fun _ => ?_) (fun _ => ?_)
  · skip
    refine zif_dep (fun z : Int64 × zS => z.2.1 8 ≤ S.1 8 + 1) (fun _ => ?_) (fun _ => ?_)
    · skip
      refine zif_dep (fun z : Int64 × zS => z.2.1 8 ≤ S.1 8 + 1) (fun _ => ?_) (fun _ => ?_)
      · skip
        first | exact Nat.le_succ _ | exact Nat.le_refl _ | exact Nat.zero_le _ | (show S.1 8 - 1 ≤ S.1 8 + 1; omega)
      · skip
        refine zif_dep (fun z : Int64 × zS => z.2.1 8 ≤ S.1 8 + 1) (fun _ => ?_) (fun _ => ?_)
        · skip
          refine zif_dep (fun z : Int64 × zS => z.2.1 8 ≤ S.1 8 + 1) (fun _ => ?_) (fun _ => ?_)
          · skip
            refine zif_dep (fun z : Int64 × zS => z.2.1 8 ≤ S.1 8 + 1) (fun _ => ?_) (fun _ => ?_)
            · skip
              first | exact Nat.le_succ _ | exact Nat.le_refl _ | exact Nat.zero_le _ | (show S.1 8 - 1 ≤ S.1 8 + 1; omega)
            · skip
              first | exact Nat.le_succ _ | exact Nat.le_refl _ | exact Nat.zero_le _ | (show S.1 8 - 1 ≤ S.1 8 + 1; omega)
          · skip
            first | exact Nat.le_succ _ | exact Nat.le_refl _ | exact Nat.zero_le _ | (show S.1 8 - 1 ≤ S.1 8 + 1; omega)
        · skip
          first | exact Nat.le_succ _ | exact Nat.le_refl _ | exact Nat.zero_le _ | (show S.1 8 - 1 ≤ S.1 8 + 1; omega)
    · skip
      first | exact Nat.le_succ _ | exact Nat.le_refl _ | exact Nat.zero_le _ | (show S.1 8 - 1 ≤ S.1 8 + 1; omega)
  · skip
    first | exact Nat.le_succ _ | exact Nat.le_refl _ | exact Nat.zero_le _ | (show S.1 8 - 1 ≤ S.1 8 + 1; omega)
theorem acts_quiet {S : zS} : (opQuiet S).2.1 8 ≤ S.1 8 + 1 := by
  unfold opQuiet
  refine zif_dep (fun z : Int32 × zS => z.2.1 8 ≤ S.1 8 + 1) (fun _ => ?_) (fun _ => ?_)
  · skip
    first | exact Nat.le_succ _ | exact Nat.le_refl _ | exact Nat.zero_le _ | (show S.1 8 - 1 ≤ S.1 8 + 1; omega)
  · skip
    first | exact Nat.le_succ _ | exact Nat.le_refl _ | exact Nat.zero_le _ | (show S.1 8 - 1 ≤ S.1 8 + 1; omega)
theorem acts_drawn {S : zS} (n x w : Int32) : (opDrawn S n x w).2.1 8 ≤ S.1 8 + 1 := by
  unfold opDrawn
  refine zif_dep (fun z : Int32 × zS => z.2.1 8 ≤ S.1 8 + 1) (fun _ => ?_) (fun _ => ?_)
  · skip
    refine zif_dep (fun z : Int32 × zS => z.2.1 8 ≤ S.1 8 + 1) (fun _ => ?_) (fun _ => ?_)
    · skip
      refine zif_dep (fun z : Int32 × zS => z.2.1 8 ≤ S.1 8 + 1) (fun _ => ?_) (fun _ => ?_)
      · skip
        refine zif_dep (fun z : Int32 × zS => z.2.1 8 ≤ S.1 8 + 1) (fun _ => ?_) (fun _ => ?_)
        · skip
          first | exact Nat.le_succ _ | exact Nat.le_refl _ | exact Nat.zero_le _ | (show S.1 8 - 1 ≤ S.1 8 + 1; omega)
        · skip
          first | exact Nat.le_succ _ | exact Nat.le_refl _ | exact Nat.zero_le _ | (show S.1 8 - 1 ≤ S.1 8 + 1; omega)
      · skip
        first | exact Nat.le_succ _ | exact Nat.le_refl _ | exact Nat.zero_le _ | (show S.1 8 - 1 ≤ S.1 8 + 1; omega)
    · skip
      first | exact Nat.le_succ _ | exact Nat.le_refl _ | exact Nat.zero_le _ | (show S.1 8 - 1 ≤ S.1 8 + 1; omega)
  · skip
    first | exact Nat.le_succ _ | exact Nat.le_refl _ | exact Nat.zero_le _ | (show S.1 8 - 1 ≤ S.1 8 + 1; omega)
