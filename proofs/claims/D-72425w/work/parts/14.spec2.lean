/-! the whole state, as the twin has it: numbers (0 status, 8 acts, 12 taped, 19 the last fault, 29 traced), arrays of numbers (2 many, 4 book, 7 was, 11 tape, 27 kept, 28 trace), arrays of ints (1 lane, 3 item), what images are kept -/
abbrev zS : Type := (Nat → Nat) × (Nat → Nat → Nat) × (Nat → Nat → Int32) × (Nat → Prop)
def MR (S : zS) (fi : Nat → Int32) (cn : Nat → Nat → Int32) : Prop := fi 0 = nI (S.1 0) ∧ fi 8 = nI (S.1 8) ∧ fi 12 = nI (S.1 12) ∧ fi 19 = nI (S.1 19) ∧ fi 29 = nI (S.1 29) ∧ cn 1 = S.2.2.1 1 ∧ cn 2 = nF (S.2.1 2) ∧ cn 3 = S.2.2.1 3 ∧ cn 4 = nF (S.2.1 4) ∧ cn 7 = nF (S.2.1 7) ∧ cn 11 = nF (S.2.1 11) ∧ cn 26 = zF S.2.2.2 ∧ cn 27 = nF (S.2.1 27) ∧ cn 28 = nF (S.2.1 28)
/-- what lies in the scratch arrays is of its kind -/
def MX (fi : Nat → Int32) (cn : Nat → Nat → Int32) (xl : Nat → Nat → Int64) : Prop := ∃ (F T L P V : Nat → Nat) (E : Nat → Prop) (N X : Nat → Nat) (b : Prop), cn 5 = nF F ∧ cn 6 = nF T ∧ cn 9 = nF L ∧ cn 10 = nF P ∧ cn 24 = nF V ∧ cn 25 = zF E ∧ xl 21 = lF N ∧ xl 22 = lF X ∧ fi 23 = zB b
/-- what holds of a state -/
def SI (S : zS) : Prop := bOK (S.2.1 4) ∧ S.1 0 ≤ 6 ∧ S.1 8 ≤ 24 ∧ S.1 12 ≤ 120 ∧ S.1 19 ≤ 4 ∧ S.1 29 ≤ 16 ∧ (∀ r, r < 8 → S.2.1 2 r ≤ 40) ∧ (∀ i, i < S.1 8 → bOK (fun j => S.2.1 7 (44 * i + j))) ∧ (∀ k, k < 2 → S.2.2.2 k → bOK (fun j => S.2.1 27 (44 * k + j)) ∧ 0 < S.2.1 27 (44 * k)) ∧ (∀ j, S.2.1 11 j < 256) ∧ (∀ i, i < S.1 8 → 0 < S.2.1 7 (44 * i)) ∧ (0 < S.1 8 → 0 < S.2.1 4 0)
def zfnd (n : Nat) : Int32 := -1000010 - nI n
noncomputable def zres (n : Nat) : Int32 := zif (n = 0) (nI 0) (zfnd n)
noncomputable def zcut (l v : Int32) : Int32 := zif (l = 0) v.toInt8.toInt32 (zif (l = nI 1) v.toInt16.toInt32 v)
/-- the status told -/
def sSt (S : zS) (n : Nat) : zS := (va_up S.1 0 n, S.2)
noncomputable def opRow (S : zS) (r l n : Int32) : Int32 × zS := zif (zIn r 0 7) (zif (zIn l 0 2) (zif (n ≤ nI 40) (zif (0 ≤ n) (n, (va_up S.1 0 0, va_up S.2.1 2 (va_up (S.2.1 2) (zn r) (zn n)), va_up (va_up S.2.2.1 1 (upd (S.2.2.1 1) (zn r) l)) 3 (va_cpy (fun _ => nI 0) (S.2.2.1 3) 0 (40 * zn r) 40), S.2.2.2)) (zfnd 4, sSt S 4)) (-1000001, S)) (-1000001, S)) (-1000001, S)
noncomputable def opSet (S : zS) (r i v : Int32) : Int32 × zS := zif (zIn r 0 7) (zif (0 ≤ S.2.2.1 1 (zn r)) (zif (zIn i 0 ((S.2.1 2 (zn r) : Nat) - 1 : Int)) (zcut (S.2.2.1 1 (zn r)) v, (va_up S.1 0 0, S.2.1, va_up S.2.2.1 3 (upd (S.2.2.1 3) (40 * zn r + zn i) (zcut (S.2.2.1 1 (zn r)) v)), S.2.2.2)) (zfnd 2, sSt S 2)) (zfnd 1, sSt S 1)) (-1000001, S)
def zcok (S : zS) (a i b j n : Int32) : Prop := 0 ≤ i.toInt ∧ 0 ≤ j.toInt ∧ 0 ≤ n.toInt ∧ i.toInt + n.toInt ≤ S.2.1 2 (zn a) ∧ j.toInt + n.toInt ≤ S.2.1 2 (zn b)
noncomputable def opCopy (S : zS) (a i b j n : Int32) : Int32 × zS := zif (zIn a 0 7) (zif (zIn b 0 7) (zif (S.2.2.1 1 (zn a) < 0) (zfnd 1, sSt S 1) (zif (0 ≤ S.2.2.1 1 (zn b)) (zif (S.2.2.1 1 (zn a) = S.2.2.1 1 (zn b)) (zif (zcok S a i b j n) (n, (va_up S.1 0 0, S.2.1, va_up S.2.2.1 3 (va_cpy (S.2.2.1 3) (S.2.2.1 3) (40 * zn a + zn i) (40 * zn b + zn j) (zn n)), S.2.2.2)) (zfnd 2, sSt S 2)) (zfnd 5, sSt S 5)) (zfnd 1, sSt S 1))) (-1000001, S)) (-1000001, S)
noncomputable def opDrop (S : zS) (r : Int32) : Int32 × zS := zif (zIn r 0 7) (zif (0 ≤ S.2.2.1 1 (zn r)) (nI (S.2.1 2 (zn r)), (va_up S.1 0 0, S.2.1, va_up S.2.2.1 1 (upd (S.2.2.1 1) (zn r) (-1)), S.2.2.2)) (zfnd 1, sSt S 1)) (-1000001, S)
noncomputable def opFeed (S : zS) (w : Int32) : Int32 × zS := zif (zIn w 0 255) (zif (S.1 12 = 120) (-1000003, S) (nI (S.1 12 + 1), (va_up S.1 12 (S.1 12 + 1), va_up S.2.1 11 (va_up (S.2.1 11) (S.1 12) (zn w)), S.2.2))) (-1000001, S)
/-- it is kept as it is, ahead of an act; then the book is another one -/
def sKeep (S : zS) (B : Nat → Nat) : zS := (va_up S.1 8 (S.1 8 + 1), va_up (va_up S.2.1 4 B) 7 (va_cpy (S.2.1 4) (S.2.1 7) 0 (44 * S.1 8) 44), S.2.2)
noncomputable def opUndo (S : zS) : Int32 × zS := zif (S.1 8 = 0) (-1000002, S) (nI (S.1 8 - 1), (va_up S.1 8 (S.1 8 - 1), va_up S.2.1 4 (fun j => S.2.1 7 (44 * (S.1 8 - 1) + j)), S.2.2))
noncomputable def zlk (la : Nat → Int32) (mn : Nat → Nat) (r n : Nat) : Nat := zif (0 ≤ la r) (zif (n ≤ mn r) 0 2) 1
def zlts (it : Nat → Int32) (k r n : Nat) : Prop := ∀ j, j < n → zIn (it (40 * r + j)) 0 ((k : Nat) - 1 : Int)
noncomputable def zll (la : Nat → Int32) (mn : Nat → Nat) (it : Nat → Int32) (k r n : Nat) : Nat := zif (zlk la mn r n = 0) (zif (zlts it k r n) 0 2) (zlk la mn r n)
noncomputable abbrev sLL (S : zS) (r n : Nat) : Nat := zll (S.2.2.1 1) (S.2.1 2) (S.2.2.1 3) (S.2.1 4 0) r n
/-- the letters that a row tells -/
def zits (S : zS) (r : Nat) : Nat → Nat := fun k => zn (S.2.2.1 3 (40 * r + k))
noncomputable def opWord (S : zS) (s r n : Int32) : Int32 × zS := zif (zIn s 0 ((S.2.1 4 0 : Nat) - 1 : Int)) (zif (zIn r 0 7) (zif (zIn n 1 4) (zif (sLL S (zn r) (zn n) = 0) (nI (bwl (S.2.1 4) (zn s)), sSt (sKeep S (va_up (va_cpy (zits S (zn r)) (S.2.1 4) 0 (12 + 8 * zn s + 4) (zn n)) (12 + 8 * zn s + 3) (zn n))) 0) (zres (sLL S (zn r) (zn n)), sSt S (sLL S (zn r) (zn n)))) (-1000001, S)) (-1000001, S)) (-1000001, S)
noncomputable def opLength (S : zS) (s w v : Int32) : Int32 × zS := zif (zIn s 0 ((S.2.1 4 0 : Nat) - 1 : Int)) (zif (zIn w 0 1) (zif (zIn v 0 9) (nI (S.2.1 4 (12 + 8 * zn s + 1 + zn w)), sKeep S (va_up (S.2.1 4) (12 + 8 * zn s + 1 + zn w) (zn v))) (-1000001, S)) (-1000001, S)) (-1000001, S)
noncomputable def opBecome (S : zS) (s k : Int32) : Int32 × zS := zif (zIn s 0 ((S.2.1 4 0 : Nat) - 1 : Int)) (zif (zIn k 1 5) (zif (bkd (S.2.1 4) (zn s) = zn k) (-1000002, S) (nI (bkd (S.2.1 4) (zn s)), sKeep S (va_up (S.2.1 4) (12 + 8 * zn s) (zn k)))) (-1000001, S)) (-1000001, S)
noncomputable def opRoot (S : zS) (w v : Int32) : Int32 × zS := zif (0 < S.2.1 4 0) (zif (zIn w 0 1) (zif (zIn v (zn w : Int) ((zif (zn w = 0) 3 9 : Nat) : Int)) (nI (S.2.1 4 (1 + zn w)), sKeep S (va_up (S.2.1 4) (1 + zn w) (zn v))) (-1000001, S)) (-1000001, S)) (-1000002, S)
noncomputable def opBegin (S : zS) (r n : Int32) : Int32 × zS := zif (0 < S.2.1 4 0) (zif (zIn r 0 7) (zif (zIn n 1 8) (zif (sLL S (zn r) (zn n) = 0) (nI (S.2.1 4 3), sSt (sKeep S (va_up (va_cpy (zits S (zn r)) (S.2.1 4) 0 4 (zn n)) 3 (zn n))) 0) (zres (sLL S (zn r) (zn n)), sSt S (sLL S (zn r) (zn n)))) (-1000001, S)) (-1000001, S)) (-1000002, S)
noncomputable def opImage (S : zS) (k : Int32) : Int32 × zS := zif (zIn k 0 1) (zif (0 < S.2.1 4 0) (nI 1, (S.1, va_up S.2.1 27 (va_cpy (S.2.1 4) (S.2.1 27) 0 (44 * zn k) 44), S.2.2.1, va_up S.2.2.2 (zn k) True)) (-1000002, S)) (-1000001, S)
noncomputable def opRestore (S : zS) (k : Int32) : Int32 × zS := zif (zIn k 0 1) (zif (S.2.2.2 (zn k)) (nI 1, (va_up S.1 8 0, va_up S.2.1 4 (fun j => S.2.1 27 (44 * zn k + j)), S.2.2)) (-1000002, S)) (-1000001, S)
noncomputable def opAs (S : zS) (s k : Int32) : Int32 × zS := zif (zIn s 0 ((S.2.1 4 0 : Nat) - 1 : Int)) (zif (zIn k 0 5) (zif (bisOf (bkd (S.2.1 4) (zn s)) (zn k)) (nI (zn s), sSt S 0) (zfnd 3, sSt S 3)) (-1000001, S)) (-1000001, S)
theorem zres_0 : zres 0 = nI 0 := zif_t rfl
theorem zres_s {k : Nat} (h : k ≠ 0) : zres k = zfnd k := zif_f h
theorem zfnd_ne {k : Nat} (h : k ≤ 6) : ¬ zfnd k = 0 := by
  have : ∀ k, k < 7 → ¬ zfnd k = 0 := by decide +kernel
  exact this k (by omega)
theorem zres_ne {k : Nat} (h : ¬ k = 0) (h2 : k ≤ 6) : ¬ zres k = 0 := by rw [zres_s h]; exact zfnd_ne h2
theorem zlk_le (la : Nat → Int32) (mn : Nat → Nat) (r n : Nat) : zlk la mn r n ≤ 6 := zif_ind (fun z => z ≤ 6) (zif_ind (fun z => z ≤ 6) (by decide) (by decide)) (by decide)
theorem zll_le (la : Nat → Int32) (mn : Nat → Nat) (it : Nat → Int32) (k r n : Nat) : zll la mn it k r n ≤ 6 := zif_ind (fun z => z ≤ 6) (zif_ind (fun z => z ≤ 6) (by decide) (by decide)) (zlk_le la mn r n)
theorem zll_0 {la : Nat → Int32} {mn : Nat → Nat} {it : Nat → Int32} {k r n : Nat} (h : zll la mn it k r n = 0) : zlk la mn r n = 0 ∧ zlts it k r n := by
  by_cases c : zlk la mn r n = 0
  · refine ⟨c, Classical.byContradiction fun q => ?_⟩
    unfold zll at h
    rw [zif_t c, zif_f q] at h
    cases h
  · unfold zll at h
    rw [zif_f c] at h
    exact absurd h c
