/-! KeptCurves' own world: cells at b k (owner 1); arrays U k, numbers J k, the lists' row R; b 21, b 24 the sets (owners 2, 3), b 18 the paper (4), b 87 the constant lambda (no cell of ours) -/
def xIs (k : Nat) : Bool := [0, 1, 2, 3, 4, 5, 7, 8, 10, 11, 12, 13, 14, 19, 20, 22, 23, 25, 30, 31, 40, 41, 42, 43, 44, 45, 46, 47, 48, 49, 50, 51, 52, 53, 54, 55, 56, 57, 58, 60, 61, 62, 63, 64, 65, 66, 67, 68, 69, 70, 71, 72, 73, 74, 75, 76, 77, 78, 80, 81, 82, 83, 84, 85, 86].contains k
def xcF (X : gX) (b : Nat → Nat) (U : Nat → Int → Int) (J : Nat → Int) (R : Int → Option Nat) (k : Nat) : gE := match k with
  | 0 => gO 0 [.ref (b 1), .ref (b 2), .int (iI (J 2)), .ref (b 3), .ref (b 4), .ref (b 5), .int (iI (J 6)), .ref (b 7), .ref (b 8), .int (iI (J 9)), .ref (b 10), .ref (b 11), .ref (b 12), .ref (b 13), .ref (b 14), .ref (b 56), .ref (b 57), .ref (b 58), .ref (b 18), .ref (b 19)]
  | 1 => gO 1 [.ref (b 20), .ref (b 21), .ref (b 22), .int (iI (J 30))]
  | 2 => gO 1 [.ref (b 23), .ref (b 24), .ref (b 25), .int (iI (J 31))]
  | 3 => gV (X.2.1 3) 4 (fun j => some (b (84 + j.toNat)))
  | 4 => gV (X.2.1 4) 4 (fun j => some (b (80 + j.toNat)))
  | 5 => gI (X.2.1 2) 60 (U 5)
  | 7 => gI (X.2.1 0) 9 (U 7)
  | 8 => gI (X.2.1 0) 1024 (U 8)
  | 10 => gI (X.2.1 1) 1024 (U 10)
  | 11 => gV (X.2.1 5) 2 (fun j => some (b (30 + j.toNat)))
  | 12 => gV (X.2.1 6) 3 (fun j => some (b (44 + j.toNat)))
  | 13 => gV (X.2.1 6) 6 (fun j => some (b (47 + j.toNat)))
  | 14 => gV (X.2.1 6) 3 (fun j => some (b (53 + j.toNat)))
  | 19 => gV (X.2.1 7) 4 R
  | 20 => gI (X.2.1 0) 18 (U 20)
  | 22 => gI (X.2.1 0) 16 (U 22)
  | 23 => gI (X.2.1 0) 18 (U 23)
  | 25 => gI (X.2.1 0) 16 (U 25)
  | 30 => gO 2 [.ref (b 40), .ref (b 41)]
  | 31 => gO 2 [.ref (b 42), .ref (b 43)]
  | 40 => gO 3 [.ref (b 60), .int (iI (J 40))]
  | 41 => gO 3 [.ref (b 61), .int (iI (J 41))]
  | 42 => gO 3 [.ref (b 62), .int (iI (J 42))]
  | 43 => gO 3 [.ref (b 63), .int (iI (J 43))]
  | 44 => gO 3 [.ref (b 64), .int (iI (J 44))]
  | 45 => gO 3 [.ref (b 65), .int (iI (J 45))]
  | 46 => gO 3 [.ref (b 66), .int (iI (J 46))]
  | 47 => gO 3 [.ref (b 67), .int (iI (J 47))]
  | 48 => gO 3 [.ref (b 68), .int (iI (J 48))]
  | 49 => gO 3 [.ref (b 69), .int (iI (J 49))]
  | 50 => gO 3 [.ref (b 70), .int (iI (J 50))]
  | 51 => gO 3 [.ref (b 71), .int (iI (J 51))]
  | 52 => gO 3 [.ref (b 72), .int (iI (J 52))]
  | 53 => gO 3 [.ref (b 73), .int (iI (J 53))]
  | 54 => gO 3 [.ref (b 74), .int (iI (J 54))]
  | 55 => gO 3 [.ref (b 75), .int (iI (J 55))]
  | 56 => gO 3 [.ref (b 76), .int (iI (J 56))]
  | 57 => gO 3 [.ref (b 77), .int (iI (J 57))]
  | 58 => gO 3 [.ref (b 78), .int (iI (J 58))]
  | 60 => gI (X.2.1 0) 1400 (U 60)
  | 61 => gI (X.2.1 0) 1400 (U 61)
  | 62 => gI (X.2.1 0) 1400 (U 62)
  | 63 => gI (X.2.1 0) 1400 (U 63)
  | 64 => gI (X.2.1 0) 1400 (U 64)
  | 65 => gI (X.2.1 0) 1400 (U 65)
  | 66 => gI (X.2.1 0) 1400 (U 66)
  | 67 => gI (X.2.1 0) 1400 (U 67)
  | 68 => gI (X.2.1 0) 1400 (U 68)
  | 69 => gI (X.2.1 0) 1400 (U 69)
  | 70 => gI (X.2.1 0) 1400 (U 70)
  | 71 => gI (X.2.1 0) 1400 (U 71)
  | 72 => gI (X.2.1 0) 1400 (U 72)
  | 73 => gI (X.2.1 0) 1400 (U 73)
  | 74 => gI (X.2.1 0) 1400 (U 74)
  | 75 => gI (X.2.1 0) 1400 (U 75)
  | 76 => gI (X.2.1 0) 1400 (U 76)
  | 77 => gI (X.2.1 0) 1400 (U 77)
  | 78 => gI (X.2.1 0) 1400 (U 78)
  | 80 => gL 0 [.ref (b 0)]
  | 81 => gL 1 [.ref (b 0)]
  | 82 => gL 2 [.ref (b 0)]
  | 83 => gL 3 [.ref (b 0)]
  | 84 => gL 4 [.ref (b 0)]
  | 85 => gL 5 [.ref (b 0)]
  | 86 => gL 6 [.ref (b 0)]
  | _ => gO 0 []
/-- the object of the site that catches nothing -/
def lam7 (X : gX) (a : Nat) : Prop := X.2.2.2.2.lambdaAt? (lmX 7) (lmP 7) (lmI 7) (lmS 7) = some (X.2.2.1 7, some a)
def XW (X : gX) (σ : gS) (b : Nat → Nat) (U : Nat → Int → Int) (J : Nat → Int) (R : Int → Option Nat) : Prop :=
  (∀ k, xIs k = true → σ (b k) = some (1, xcF X b U J R k)) ∧ (∀ i j, xIs i = true → xIs j = true → b i = b j → i = j) ∧ lam7 X (b 87)
theorem XW.c0 {X : gX} {σ : gS} {b : Nat → Nat} {U : Nat → Int → Int} {J : Nat → Int} {R : Int → Option Nat} (h : XW X σ b U J R) : σ (b 0) = some (1, gO 0 [.ref (b 1), .ref (b 2), .int (iI (J 2)), .ref (b 3), .ref (b 4), .ref (b 5), .int (iI (J 6)), .ref (b 7), .ref (b 8), .int (iI (J 9)), .ref (b 10), .ref (b 11), .ref (b 12), .ref (b 13), .ref (b 14), .ref (b 56), .ref (b 57), .ref (b 58), .ref (b 18), .ref (b 19)]) := h.1 0 rfl
theorem XW.c1 {X : gX} {σ : gS} {b : Nat → Nat} {U : Nat → Int → Int} {J : Nat → Int} {R : Int → Option Nat} (h : XW X σ b U J R) : σ (b 1) = some (1, gO 1 [.ref (b 20), .ref (b 21), .ref (b 22), .int (iI (J 30))]) := h.1 1 rfl
theorem XW.c2 {X : gX} {σ : gS} {b : Nat → Nat} {U : Nat → Int → Int} {J : Nat → Int} {R : Int → Option Nat} (h : XW X σ b U J R) : σ (b 2) = some (1, gO 1 [.ref (b 23), .ref (b 24), .ref (b 25), .int (iI (J 31))]) := h.1 2 rfl
theorem XW.c3 {X : gX} {σ : gS} {b : Nat → Nat} {U : Nat → Int → Int} {J : Nat → Int} {R : Int → Option Nat} (h : XW X σ b U J R) : σ (b 3) = some (1, gV (X.2.1 3) 4 (fun j => some (b (84 + j.toNat)))) := h.1 3 rfl
theorem XW.c4 {X : gX} {σ : gS} {b : Nat → Nat} {U : Nat → Int → Int} {J : Nat → Int} {R : Int → Option Nat} (h : XW X σ b U J R) : σ (b 4) = some (1, gV (X.2.1 4) 4 (fun j => some (b (80 + j.toNat)))) := h.1 4 rfl
theorem XW.c5 {X : gX} {σ : gS} {b : Nat → Nat} {U : Nat → Int → Int} {J : Nat → Int} {R : Int → Option Nat} (h : XW X σ b U J R) : σ (b 5) = some (1, gI (X.2.1 2) 60 (U 5)) := h.1 5 rfl
theorem XW.c7 {X : gX} {σ : gS} {b : Nat → Nat} {U : Nat → Int → Int} {J : Nat → Int} {R : Int → Option Nat} (h : XW X σ b U J R) : σ (b 7) = some (1, gI (X.2.1 0) 9 (U 7)) := h.1 7 rfl
theorem XW.c8 {X : gX} {σ : gS} {b : Nat → Nat} {U : Nat → Int → Int} {J : Nat → Int} {R : Int → Option Nat} (h : XW X σ b U J R) : σ (b 8) = some (1, gI (X.2.1 0) 1024 (U 8)) := h.1 8 rfl
theorem XW.c10 {X : gX} {σ : gS} {b : Nat → Nat} {U : Nat → Int → Int} {J : Nat → Int} {R : Int → Option Nat} (h : XW X σ b U J R) : σ (b 10) = some (1, gI (X.2.1 1) 1024 (U 10)) := h.1 10 rfl
theorem XW.c11 {X : gX} {σ : gS} {b : Nat → Nat} {U : Nat → Int → Int} {J : Nat → Int} {R : Int → Option Nat} (h : XW X σ b U J R) : σ (b 11) = some (1, gV (X.2.1 5) 2 (fun j => some (b (30 + j.toNat)))) := h.1 11 rfl
theorem XW.c12 {X : gX} {σ : gS} {b : Nat → Nat} {U : Nat → Int → Int} {J : Nat → Int} {R : Int → Option Nat} (h : XW X σ b U J R) : σ (b 12) = some (1, gV (X.2.1 6) 3 (fun j => some (b (44 + j.toNat)))) := h.1 12 rfl
theorem XW.c13 {X : gX} {σ : gS} {b : Nat → Nat} {U : Nat → Int → Int} {J : Nat → Int} {R : Int → Option Nat} (h : XW X σ b U J R) : σ (b 13) = some (1, gV (X.2.1 6) 6 (fun j => some (b (47 + j.toNat)))) := h.1 13 rfl
theorem XW.c14 {X : gX} {σ : gS} {b : Nat → Nat} {U : Nat → Int → Int} {J : Nat → Int} {R : Int → Option Nat} (h : XW X σ b U J R) : σ (b 14) = some (1, gV (X.2.1 6) 3 (fun j => some (b (53 + j.toNat)))) := h.1 14 rfl
theorem XW.c19 {X : gX} {σ : gS} {b : Nat → Nat} {U : Nat → Int → Int} {J : Nat → Int} {R : Int → Option Nat} (h : XW X σ b U J R) : σ (b 19) = some (1, gV (X.2.1 7) 4 R) := h.1 19 rfl
theorem XW.c20 {X : gX} {σ : gS} {b : Nat → Nat} {U : Nat → Int → Int} {J : Nat → Int} {R : Int → Option Nat} (h : XW X σ b U J R) : σ (b 20) = some (1, gI (X.2.1 0) 18 (U 20)) := h.1 20 rfl
theorem XW.c22 {X : gX} {σ : gS} {b : Nat → Nat} {U : Nat → Int → Int} {J : Nat → Int} {R : Int → Option Nat} (h : XW X σ b U J R) : σ (b 22) = some (1, gI (X.2.1 0) 16 (U 22)) := h.1 22 rfl
theorem XW.c23 {X : gX} {σ : gS} {b : Nat → Nat} {U : Nat → Int → Int} {J : Nat → Int} {R : Int → Option Nat} (h : XW X σ b U J R) : σ (b 23) = some (1, gI (X.2.1 0) 18 (U 23)) := h.1 23 rfl
theorem XW.c25 {X : gX} {σ : gS} {b : Nat → Nat} {U : Nat → Int → Int} {J : Nat → Int} {R : Int → Option Nat} (h : XW X σ b U J R) : σ (b 25) = some (1, gI (X.2.1 0) 16 (U 25)) := h.1 25 rfl
theorem XW.c30 {X : gX} {σ : gS} {b : Nat → Nat} {U : Nat → Int → Int} {J : Nat → Int} {R : Int → Option Nat} (h : XW X σ b U J R) : σ (b 30) = some (1, gO 2 [.ref (b 40), .ref (b 41)]) := h.1 30 rfl
theorem XW.c31 {X : gX} {σ : gS} {b : Nat → Nat} {U : Nat → Int → Int} {J : Nat → Int} {R : Int → Option Nat} (h : XW X σ b U J R) : σ (b 31) = some (1, gO 2 [.ref (b 42), .ref (b 43)]) := h.1 31 rfl
theorem XW.c40 {X : gX} {σ : gS} {b : Nat → Nat} {U : Nat → Int → Int} {J : Nat → Int} {R : Int → Option Nat} (h : XW X σ b U J R) : σ (b 40) = some (1, gO 3 [.ref (b 60), .int (iI (J 40))]) := h.1 40 rfl
theorem XW.c41 {X : gX} {σ : gS} {b : Nat → Nat} {U : Nat → Int → Int} {J : Nat → Int} {R : Int → Option Nat} (h : XW X σ b U J R) : σ (b 41) = some (1, gO 3 [.ref (b 61), .int (iI (J 41))]) := h.1 41 rfl
theorem XW.c42 {X : gX} {σ : gS} {b : Nat → Nat} {U : Nat → Int → Int} {J : Nat → Int} {R : Int → Option Nat} (h : XW X σ b U J R) : σ (b 42) = some (1, gO 3 [.ref (b 62), .int (iI (J 42))]) := h.1 42 rfl
theorem XW.c43 {X : gX} {σ : gS} {b : Nat → Nat} {U : Nat → Int → Int} {J : Nat → Int} {R : Int → Option Nat} (h : XW X σ b U J R) : σ (b 43) = some (1, gO 3 [.ref (b 63), .int (iI (J 43))]) := h.1 43 rfl
theorem XW.c44 {X : gX} {σ : gS} {b : Nat → Nat} {U : Nat → Int → Int} {J : Nat → Int} {R : Int → Option Nat} (h : XW X σ b U J R) : σ (b 44) = some (1, gO 3 [.ref (b 64), .int (iI (J 44))]) := h.1 44 rfl
theorem XW.c45 {X : gX} {σ : gS} {b : Nat → Nat} {U : Nat → Int → Int} {J : Nat → Int} {R : Int → Option Nat} (h : XW X σ b U J R) : σ (b 45) = some (1, gO 3 [.ref (b 65), .int (iI (J 45))]) := h.1 45 rfl
theorem XW.c46 {X : gX} {σ : gS} {b : Nat → Nat} {U : Nat → Int → Int} {J : Nat → Int} {R : Int → Option Nat} (h : XW X σ b U J R) : σ (b 46) = some (1, gO 3 [.ref (b 66), .int (iI (J 46))]) := h.1 46 rfl
theorem XW.c47 {X : gX} {σ : gS} {b : Nat → Nat} {U : Nat → Int → Int} {J : Nat → Int} {R : Int → Option Nat} (h : XW X σ b U J R) : σ (b 47) = some (1, gO 3 [.ref (b 67), .int (iI (J 47))]) := h.1 47 rfl
theorem XW.c48 {X : gX} {σ : gS} {b : Nat → Nat} {U : Nat → Int → Int} {J : Nat → Int} {R : Int → Option Nat} (h : XW X σ b U J R) : σ (b 48) = some (1, gO 3 [.ref (b 68), .int (iI (J 48))]) := h.1 48 rfl
theorem XW.c49 {X : gX} {σ : gS} {b : Nat → Nat} {U : Nat → Int → Int} {J : Nat → Int} {R : Int → Option Nat} (h : XW X σ b U J R) : σ (b 49) = some (1, gO 3 [.ref (b 69), .int (iI (J 49))]) := h.1 49 rfl
theorem XW.c50 {X : gX} {σ : gS} {b : Nat → Nat} {U : Nat → Int → Int} {J : Nat → Int} {R : Int → Option Nat} (h : XW X σ b U J R) : σ (b 50) = some (1, gO 3 [.ref (b 70), .int (iI (J 50))]) := h.1 50 rfl
theorem XW.c51 {X : gX} {σ : gS} {b : Nat → Nat} {U : Nat → Int → Int} {J : Nat → Int} {R : Int → Option Nat} (h : XW X σ b U J R) : σ (b 51) = some (1, gO 3 [.ref (b 71), .int (iI (J 51))]) := h.1 51 rfl
theorem XW.c52 {X : gX} {σ : gS} {b : Nat → Nat} {U : Nat → Int → Int} {J : Nat → Int} {R : Int → Option Nat} (h : XW X σ b U J R) : σ (b 52) = some (1, gO 3 [.ref (b 72), .int (iI (J 52))]) := h.1 52 rfl
theorem XW.c53 {X : gX} {σ : gS} {b : Nat → Nat} {U : Nat → Int → Int} {J : Nat → Int} {R : Int → Option Nat} (h : XW X σ b U J R) : σ (b 53) = some (1, gO 3 [.ref (b 73), .int (iI (J 53))]) := h.1 53 rfl
theorem XW.c54 {X : gX} {σ : gS} {b : Nat → Nat} {U : Nat → Int → Int} {J : Nat → Int} {R : Int → Option Nat} (h : XW X σ b U J R) : σ (b 54) = some (1, gO 3 [.ref (b 74), .int (iI (J 54))]) := h.1 54 rfl
theorem XW.c55 {X : gX} {σ : gS} {b : Nat → Nat} {U : Nat → Int → Int} {J : Nat → Int} {R : Int → Option Nat} (h : XW X σ b U J R) : σ (b 55) = some (1, gO 3 [.ref (b 75), .int (iI (J 55))]) := h.1 55 rfl
theorem XW.c56 {X : gX} {σ : gS} {b : Nat → Nat} {U : Nat → Int → Int} {J : Nat → Int} {R : Int → Option Nat} (h : XW X σ b U J R) : σ (b 56) = some (1, gO 3 [.ref (b 76), .int (iI (J 56))]) := h.1 56 rfl
theorem XW.c57 {X : gX} {σ : gS} {b : Nat → Nat} {U : Nat → Int → Int} {J : Nat → Int} {R : Int → Option Nat} (h : XW X σ b U J R) : σ (b 57) = some (1, gO 3 [.ref (b 77), .int (iI (J 57))]) := h.1 57 rfl
theorem XW.c58 {X : gX} {σ : gS} {b : Nat → Nat} {U : Nat → Int → Int} {J : Nat → Int} {R : Int → Option Nat} (h : XW X σ b U J R) : σ (b 58) = some (1, gO 3 [.ref (b 78), .int (iI (J 58))]) := h.1 58 rfl
theorem XW.c60 {X : gX} {σ : gS} {b : Nat → Nat} {U : Nat → Int → Int} {J : Nat → Int} {R : Int → Option Nat} (h : XW X σ b U J R) : σ (b 60) = some (1, gI (X.2.1 0) 1400 (U 60)) := h.1 60 rfl
theorem XW.c61 {X : gX} {σ : gS} {b : Nat → Nat} {U : Nat → Int → Int} {J : Nat → Int} {R : Int → Option Nat} (h : XW X σ b U J R) : σ (b 61) = some (1, gI (X.2.1 0) 1400 (U 61)) := h.1 61 rfl
theorem XW.c62 {X : gX} {σ : gS} {b : Nat → Nat} {U : Nat → Int → Int} {J : Nat → Int} {R : Int → Option Nat} (h : XW X σ b U J R) : σ (b 62) = some (1, gI (X.2.1 0) 1400 (U 62)) := h.1 62 rfl
theorem XW.c63 {X : gX} {σ : gS} {b : Nat → Nat} {U : Nat → Int → Int} {J : Nat → Int} {R : Int → Option Nat} (h : XW X σ b U J R) : σ (b 63) = some (1, gI (X.2.1 0) 1400 (U 63)) := h.1 63 rfl
theorem XW.c64 {X : gX} {σ : gS} {b : Nat → Nat} {U : Nat → Int → Int} {J : Nat → Int} {R : Int → Option Nat} (h : XW X σ b U J R) : σ (b 64) = some (1, gI (X.2.1 0) 1400 (U 64)) := h.1 64 rfl
theorem XW.c65 {X : gX} {σ : gS} {b : Nat → Nat} {U : Nat → Int → Int} {J : Nat → Int} {R : Int → Option Nat} (h : XW X σ b U J R) : σ (b 65) = some (1, gI (X.2.1 0) 1400 (U 65)) := h.1 65 rfl
theorem XW.c66 {X : gX} {σ : gS} {b : Nat → Nat} {U : Nat → Int → Int} {J : Nat → Int} {R : Int → Option Nat} (h : XW X σ b U J R) : σ (b 66) = some (1, gI (X.2.1 0) 1400 (U 66)) := h.1 66 rfl
theorem XW.c67 {X : gX} {σ : gS} {b : Nat → Nat} {U : Nat → Int → Int} {J : Nat → Int} {R : Int → Option Nat} (h : XW X σ b U J R) : σ (b 67) = some (1, gI (X.2.1 0) 1400 (U 67)) := h.1 67 rfl
theorem XW.c68 {X : gX} {σ : gS} {b : Nat → Nat} {U : Nat → Int → Int} {J : Nat → Int} {R : Int → Option Nat} (h : XW X σ b U J R) : σ (b 68) = some (1, gI (X.2.1 0) 1400 (U 68)) := h.1 68 rfl
theorem XW.c69 {X : gX} {σ : gS} {b : Nat → Nat} {U : Nat → Int → Int} {J : Nat → Int} {R : Int → Option Nat} (h : XW X σ b U J R) : σ (b 69) = some (1, gI (X.2.1 0) 1400 (U 69)) := h.1 69 rfl
theorem XW.c70 {X : gX} {σ : gS} {b : Nat → Nat} {U : Nat → Int → Int} {J : Nat → Int} {R : Int → Option Nat} (h : XW X σ b U J R) : σ (b 70) = some (1, gI (X.2.1 0) 1400 (U 70)) := h.1 70 rfl
theorem XW.c71 {X : gX} {σ : gS} {b : Nat → Nat} {U : Nat → Int → Int} {J : Nat → Int} {R : Int → Option Nat} (h : XW X σ b U J R) : σ (b 71) = some (1, gI (X.2.1 0) 1400 (U 71)) := h.1 71 rfl
theorem XW.c72 {X : gX} {σ : gS} {b : Nat → Nat} {U : Nat → Int → Int} {J : Nat → Int} {R : Int → Option Nat} (h : XW X σ b U J R) : σ (b 72) = some (1, gI (X.2.1 0) 1400 (U 72)) := h.1 72 rfl
theorem XW.c73 {X : gX} {σ : gS} {b : Nat → Nat} {U : Nat → Int → Int} {J : Nat → Int} {R : Int → Option Nat} (h : XW X σ b U J R) : σ (b 73) = some (1, gI (X.2.1 0) 1400 (U 73)) := h.1 73 rfl
theorem XW.c74 {X : gX} {σ : gS} {b : Nat → Nat} {U : Nat → Int → Int} {J : Nat → Int} {R : Int → Option Nat} (h : XW X σ b U J R) : σ (b 74) = some (1, gI (X.2.1 0) 1400 (U 74)) := h.1 74 rfl
theorem XW.c75 {X : gX} {σ : gS} {b : Nat → Nat} {U : Nat → Int → Int} {J : Nat → Int} {R : Int → Option Nat} (h : XW X σ b U J R) : σ (b 75) = some (1, gI (X.2.1 0) 1400 (U 75)) := h.1 75 rfl
theorem XW.c76 {X : gX} {σ : gS} {b : Nat → Nat} {U : Nat → Int → Int} {J : Nat → Int} {R : Int → Option Nat} (h : XW X σ b U J R) : σ (b 76) = some (1, gI (X.2.1 0) 1400 (U 76)) := h.1 76 rfl
theorem XW.c77 {X : gX} {σ : gS} {b : Nat → Nat} {U : Nat → Int → Int} {J : Nat → Int} {R : Int → Option Nat} (h : XW X σ b U J R) : σ (b 77) = some (1, gI (X.2.1 0) 1400 (U 77)) := h.1 77 rfl
theorem XW.c78 {X : gX} {σ : gS} {b : Nat → Nat} {U : Nat → Int → Int} {J : Nat → Int} {R : Int → Option Nat} (h : XW X σ b U J R) : σ (b 78) = some (1, gI (X.2.1 0) 1400 (U 78)) := h.1 78 rfl
theorem XW.c80 {X : gX} {σ : gS} {b : Nat → Nat} {U : Nat → Int → Int} {J : Nat → Int} {R : Int → Option Nat} (h : XW X σ b U J R) : σ (b 80) = some (1, gL 0 [.ref (b 0)]) := h.1 80 rfl
theorem XW.c81 {X : gX} {σ : gS} {b : Nat → Nat} {U : Nat → Int → Int} {J : Nat → Int} {R : Int → Option Nat} (h : XW X σ b U J R) : σ (b 81) = some (1, gL 1 [.ref (b 0)]) := h.1 81 rfl
theorem XW.c82 {X : gX} {σ : gS} {b : Nat → Nat} {U : Nat → Int → Int} {J : Nat → Int} {R : Int → Option Nat} (h : XW X σ b U J R) : σ (b 82) = some (1, gL 2 [.ref (b 0)]) := h.1 82 rfl
theorem XW.c83 {X : gX} {σ : gS} {b : Nat → Nat} {U : Nat → Int → Int} {J : Nat → Int} {R : Int → Option Nat} (h : XW X σ b U J R) : σ (b 83) = some (1, gL 3 [.ref (b 0)]) := h.1 83 rfl
theorem XW.c84 {X : gX} {σ : gS} {b : Nat → Nat} {U : Nat → Int → Int} {J : Nat → Int} {R : Int → Option Nat} (h : XW X σ b U J R) : σ (b 84) = some (1, gL 4 [.ref (b 0)]) := h.1 84 rfl
theorem XW.c85 {X : gX} {σ : gS} {b : Nat → Nat} {U : Nat → Int → Int} {J : Nat → Int} {R : Int → Option Nat} (h : XW X σ b U J R) : σ (b 85) = some (1, gL 5 [.ref (b 0)]) := h.1 85 rfl
theorem XW.c86 {X : gX} {σ : gS} {b : Nat → Nat} {U : Nat → Int → Int} {J : Nat → Int} {R : Int → Option Nat} (h : XW X σ b U J R) : σ (b 86) = some (1, gL 6 [.ref (b 0)]) := h.1 86 rfl
theorem XW.keep {X : gX} {σ : gS} {b : Nat → Nat} {U : Nat → Int → Int} {J : Nat → Int} {R : Int → Option Nat} {σ' : gS} {tg : Nat → Prop} (h : XW X σ b U J R) (hk : gKeep tg σ σ') (ht : ¬ tg 1) : XW X σ' b U J R := ⟨fun k hi => hk _ _ _ (h.1 k hi) ht, h.2⟩
theorem XW.put {X : gX} {σ : gS} {b : Nat → Nat} {U : Nat → Int → Int} {J : Nat → Int} {R : Int → Option Nat} {U' : Nat → Int → Int} {J' : Nat → Int} {R' : Int → Option Nat} (h : XW X σ b U J R) (k : Nat) (hk : xIs k = true) (ho : ∀ j, xIs j = true → j ≠ k → xcF X b U' J' R' j = xcF X b U J R j) : XW X (gup σ (b k) (1, xcF X b U' J' R' k)) b U' J' R' := by
  refine ⟨fun j hj => ?_, h.2⟩
  by_cases e : j = k
  · subst e
    exact gup_s
  · rw [gup_n (fun q => e (h.2.1 j k hj hk q)), ho j hj e]
    exact h.1 j hj
theorem xcF_U {X : gX} {b : Nat → Nat} {U U' : Nat → Int → Int} {J : Nat → Int} {R : Int → Option Nat} (k j : Nat) (g : Int → Int) (e : j ≠ k) : xcF X b (va_up U k g) J R j = xcF X b U J R j := by
  have h : ∀ i, i = j → va_up U k g i = U i := fun i hi => va_up_ne _ _ (by rw [hi]; exact e)
  unfold xcF
  split <;> first | rfl | rw [h _ rfl]
theorem XW.set {X : gX} {σ : gS} {b : Nat → Nat} {U : Nat → Int → Int} {J : Nat → Int} {R : Int → Option Nat} (h : XW X σ b U J R) (k : Nat) (hk : xIs k = true) (g : Int → Int) : XW X (gup σ (b k) (1, xcF X b (va_up U k g) J R k)) b (va_up U k g) J R := h.put k hk (fun j _ e => xcF_U (U' := U) k j g e)
def xOw (i : Nat) : Nat := match i with
  | 2 => 0
  | 6 => 0
  | 9 => 0
  | 30 => 1
  | 31 => 2
  | 40 => 40
  | 41 => 41
  | 42 => 42
  | 43 => 43
  | 44 => 44
  | 45 => 45
  | 46 => 46
  | 47 => 47
  | 48 => 48
  | 49 => 49
  | 50 => 50
  | 51 => 51
  | 52 => 52
  | 53 => 53
  | 54 => 54
  | 55 => 55
  | 56 => 56
  | 57 => 57
  | 58 => 58
  | _ => 100
theorem xcF_J {X : gX} {b : Nat → Nat} {U : Nat → Int → Int} {J : Nat → Int} {R : Int → Option Nat} (i j : Nat) (v : Int) (e : j ≠ xOw i) : xcF X b U (va_up J i v) R j = xcF X b U J R j := by
  have h : ∀ q, xOw q = j → va_up J i v q = J q := fun q hq => va_up_ne _ _ (fun z => e (by rw [← z, hq]))
  unfold xcF
  split <;> first | rfl | rw [h 2 rfl, h 6 rfl, h 9 rfl] | rw [h 30 rfl] | rw [h 31 rfl] | rw [h _ rfl]
theorem XW.num {X : gX} {σ : gS} {b : Nat → Nat} {U : Nat → Int → Int} {J : Nat → Int} {R : Int → Option Nat} (h : XW X σ b U J R) (i : Nat) (hk : xIs (xOw i) = true) (v : Int) : XW X (gup σ (b (xOw i)) (1, xcF X b U (va_up J i v) R (xOw i))) b U (va_up J i v) R := h.put (xOw i) hk (fun j _ e => xcF_J i j v e)
theorem XW.lst {X : gX} {σ : gS} {b : Nat → Nat} {U : Nat → Int → Int} {J : Nat → Int} {R : Int → Option Nat} (h : XW X σ b U J R) (g : Int → Option Nat) : XW X (gup σ (b 19) (1, gV (X.2.1 7) 4 g)) b U J g := by
  refine h.put 19 rfl (fun j _ e => ?_)
  unfold xcF
  split <;> first | rfl | exact absurd rfl e
