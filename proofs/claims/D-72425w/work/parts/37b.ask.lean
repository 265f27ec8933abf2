/-! what is asked of a sort, and the trail it leaves -/
def btl (tr : Nat → Nat) (n : Nat) : List Nat → Nat → Nat
  | [] => tr
  | b :: l => btl (va_up tr n b) (n + 1) l
def bfzl (k : Nat) : List Nat := if k = 5 then [14, 13, 10] else [13, 10]
def bfzv (k : Nat) (B : Nat → Nat) (x : Nat) : Int32 := if k = 5 then nI 2 * (nI (B (12 + 8 * x + 1)) - nI 100) else nI (B (12 + 8 * x + 1)) - nI 100
def bmkl (k : Nat) : List Nat := if 4 ≤ k then 23 :: 20 :: bfzl k else if k = 1 then [21, 20] else if k = 3 then [22, 21, 20] else [24, 21, 20]
def bmkv (k : Nat) (B : Nat → Nat) (x : Nat) : Int32 := if 4 ≤ k then nI x - bfzv k B x else if k = 1 then nI (x + bwl B x) else if k = 3 then nI (x + bwl B x) - nI 1000 else nI (2 * (x + bwl B x))
def basl (k : Nat) : List Nat := if 4 ≤ k then bfzl k else if k = 2 then 12 :: 11 :: 10 :: bmkl k else 11 :: 10 :: bmkl k
def basv (k : Nat) (B : Nat → Nat) (x : Nat) : Int32 := if 4 ≤ k then bfzv k B x else if k = 2 then -(nI (B (12 + 8 * x + 1)) + bmkv k B x) else nI (B (12 + 8 * x + 1)) + bmkv k B x
def sTr (S : zS) (l : List Nat) : zS := (va_up S.1 29 l.length, va_up S.2.1 28 (btl (S.2.1 28) 0 l), S.2.2)
noncomputable def opAsk (S : zS) (s w : Int32) : Int32 × zS := zif (zIn s 0 ((S.2.1 4 0 : Nat) - 1 : Int)) (zif (zIn w 0 1) (zif (zn w = 0) (basv (bkd (S.2.1 4) (zn s)) (S.2.1 4) (zn s), sTr S (basl (bkd (S.2.1 4) (zn s)))) (bmkv (bkd (S.2.1 4) (zn s)) (S.2.1 4) (zn s), sTr S (bmkl (bkd (S.2.1 4) (zn s))))) (-1000001, S)) (-1000001, S)
theorem b15 {k : Nat} (h : 1 ≤ k ∧ k ≤ 5) : k = 1 ∨ k = 2 ∨ k = 3 ∨ k = 4 ∨ k = 5 := by omega
