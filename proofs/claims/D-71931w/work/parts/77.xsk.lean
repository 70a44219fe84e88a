/-! the skeleton of X: lines, yards, what stands where (printed by gen/mkxsk.py) -/
set_option maxRecDepth 100000
def LnS (b : Nat) (S : SmS) : Prop := (sT S b = 2 ∧ sP S b 0 = some (b + 1) ∧ sT S (b + 1) = 104 ∧ sN S (b + 1) = 6) ∧ (∀ p : Nat, p < 6 → sP S (b + 1) p = some (b + 2 + p) ∧ sT S (b + 2 + p) = 100 ∧ sN S (b + 2 + p) = 3) ∧ (sP S b 1 = some (b + 8) ∧ sT S (b + 8) = 100 ∧ sN S (b + 8) = 6) ∧ (sP S b 2 = some (b + 9) ∧ sT S (b + 9) = 100 ∧ sN S (b + 9) = 6) ∧ (sP S b 4 = some (b + 10) ∧ sT S (b + 10) = 100 ∧ sN S (b + 10) = 4) ∧ (sP S b 5 = some (b + 11) ∧ sT S (b + 11) = 100 ∧ sN S (b + 11) = 4) ∧ (sP S b 6 = some (b + 12) ∧ sT S (b + 12) = 100 ∧ sN S (b + 12) = 4) ∧ (sP S b 7 = some (b + 13) ∧ sT S (b + 13) = 100 ∧ sN S (b + 13) = 4) ∧ (sP S b 8 = some (b + 14) ∧ sT S (b + 14) = 102 ∧ sN S (b + 14) = 4) ∧ (sP S b 9 = some (b + 15) ∧ sT S (b + 15) = 100 ∧ sN S (b + 15) = 4)
theorem LnS_t {b : Nat} {S : SmS} (h : LnS b S) : sT S b = 2 := h.1.1
theorem LnS_p0 {b : Nat} {S : SmS} (h : LnS b S) : sP S b 0 = some (b + 1) := h.1.2.1
theorem LnS_t1 {b : Nat} {S : SmS} (h : LnS b S) : sT S (b + 1) = 104 := h.1.2.2.1
theorem LnS_n1 {b : Nat} {S : SmS} (h : LnS b S) : sN S (b + 1) = 6 := h.1.2.2.2
theorem LnS_rp {b : Nat} {S : SmS} (h : LnS b S) {p : Int} (h0 : 0 ≤ p) (h1 : p < 6) : sP S (b + 1) p = some (b + 2 + p.toNat) := by
  have := (h.2.1 p.toNat (by omega)).1
  rw [show ((p.toNat : Nat) : Int) = p by omega] at this
  exact this
theorem LnS_rt {b : Nat} {S : SmS} (h : LnS b S) {p : Int} (h0 : 0 ≤ p) (h1 : p < 6) : sT S (b + 2 + p.toNat) = 100 := (h.2.1 p.toNat (by omega)).2.1
theorem LnS_rn {b : Nat} {S : SmS} (h : LnS b S) {p : Int} (h0 : 0 ≤ p) (h1 : p < 6) : sN S (b + 2 + p.toNat) = 3 := (h.2.1 p.toNat (by omega)).2.2
theorem LnS_p1 {b : Nat} {S : SmS} (h : LnS b S) : sP S b 1 = some (b + 8) := h.2.2.1.1
theorem LnS_t8 {b : Nat} {S : SmS} (h : LnS b S) : sT S (b + 8) = 100 := h.2.2.1.2.1
theorem LnS_n8 {b : Nat} {S : SmS} (h : LnS b S) : sN S (b + 8) = 6 := h.2.2.1.2.2
theorem LnS_p2 {b : Nat} {S : SmS} (h : LnS b S) : sP S b 2 = some (b + 9) := h.2.2.2.1.1
theorem LnS_t9 {b : Nat} {S : SmS} (h : LnS b S) : sT S (b + 9) = 100 := h.2.2.2.1.2.1
theorem LnS_n9 {b : Nat} {S : SmS} (h : LnS b S) : sN S (b + 9) = 6 := h.2.2.2.1.2.2
theorem LnS_p4 {b : Nat} {S : SmS} (h : LnS b S) : sP S b 4 = some (b + 10) := h.2.2.2.2.1.1
theorem LnS_t10 {b : Nat} {S : SmS} (h : LnS b S) : sT S (b + 10) = 100 := h.2.2.2.2.1.2.1
theorem LnS_n10 {b : Nat} {S : SmS} (h : LnS b S) : sN S (b + 10) = 4 := h.2.2.2.2.1.2.2
theorem LnS_p5 {b : Nat} {S : SmS} (h : LnS b S) : sP S b 5 = some (b + 11) := h.2.2.2.2.2.1.1
theorem LnS_t11 {b : Nat} {S : SmS} (h : LnS b S) : sT S (b + 11) = 100 := h.2.2.2.2.2.1.2.1
theorem LnS_n11 {b : Nat} {S : SmS} (h : LnS b S) : sN S (b + 11) = 4 := h.2.2.2.2.2.1.2.2
theorem LnS_p6 {b : Nat} {S : SmS} (h : LnS b S) : sP S b 6 = some (b + 12) := h.2.2.2.2.2.2.1.1
theorem LnS_t12 {b : Nat} {S : SmS} (h : LnS b S) : sT S (b + 12) = 100 := h.2.2.2.2.2.2.1.2.1
theorem LnS_n12 {b : Nat} {S : SmS} (h : LnS b S) : sN S (b + 12) = 4 := h.2.2.2.2.2.2.1.2.2
theorem LnS_p7 {b : Nat} {S : SmS} (h : LnS b S) : sP S b 7 = some (b + 13) := h.2.2.2.2.2.2.2.1.1
theorem LnS_t13 {b : Nat} {S : SmS} (h : LnS b S) : sT S (b + 13) = 100 := h.2.2.2.2.2.2.2.1.2.1
theorem LnS_n13 {b : Nat} {S : SmS} (h : LnS b S) : sN S (b + 13) = 4 := h.2.2.2.2.2.2.2.1.2.2
theorem LnS_p8 {b : Nat} {S : SmS} (h : LnS b S) : sP S b 8 = some (b + 14) := h.2.2.2.2.2.2.2.2.1.1
theorem LnS_t14 {b : Nat} {S : SmS} (h : LnS b S) : sT S (b + 14) = 102 := h.2.2.2.2.2.2.2.2.1.2.1
theorem LnS_n14 {b : Nat} {S : SmS} (h : LnS b S) : sN S (b + 14) = 4 := h.2.2.2.2.2.2.2.2.1.2.2
theorem LnS_p9 {b : Nat} {S : SmS} (h : LnS b S) : sP S b 9 = some (b + 15) := h.2.2.2.2.2.2.2.2.2.1
theorem LnS_t15 {b : Nat} {S : SmS} (h : LnS b S) : sT S (b + 15) = 100 := h.2.2.2.2.2.2.2.2.2.2.1
theorem LnS_n15 {b : Nat} {S : SmS} (h : LnS b S) : sN S (b + 15) = 4 := h.2.2.2.2.2.2.2.2.2.2.2
def YdS (y b : Nat) (S : SmS) : Prop := sT S y = 3 ∧ sP S y 0 = some b ∧ (sP S y 1 = some (y + 1) ∧ sT S (y + 1) = 101 ∧ sN S (y + 1) = 2401) ∧ (sP S y 2 = some (y + 2) ∧ sT S (y + 2) = 102 ∧ sN S (y + 2) = 2401) ∧ (sP S y 3 = some (y + 3) ∧ sT S (y + 3) = 100 ∧ sN S (y + 3) = 4)
theorem YdS_t {y b : Nat} {S : SmS} (h : YdS y b S) : sT S y = 3 := h.1
theorem YdS_p0 {y b : Nat} {S : SmS} (h : YdS y b S) : sP S y 0 = some b := h.2.1
theorem YdS_p1 {y b : Nat} {S : SmS} (h : YdS y b S) : sP S y 1 = some (y + 1) := h.2.2.1.1
theorem YdS_t1 {y b : Nat} {S : SmS} (h : YdS y b S) : sT S (y + 1) = 101 := h.2.2.1.2.1
theorem YdS_n1 {y b : Nat} {S : SmS} (h : YdS y b S) : sN S (y + 1) = 2401 := h.2.2.1.2.2
theorem YdS_p2 {y b : Nat} {S : SmS} (h : YdS y b S) : sP S y 2 = some (y + 2) := h.2.2.2.1.1
theorem YdS_t2 {y b : Nat} {S : SmS} (h : YdS y b S) : sT S (y + 2) = 102 := h.2.2.2.1.2.1
theorem YdS_n2 {y b : Nat} {S : SmS} (h : YdS y b S) : sN S (y + 2) = 2401 := h.2.2.2.1.2.2
theorem YdS_p3 {y b : Nat} {S : SmS} (h : YdS y b S) : sP S y 3 = some (y + 3) := h.2.2.2.2.1
theorem YdS_t3 {y b : Nat} {S : SmS} (h : YdS y b S) : sT S (y + 3) = 100 := h.2.2.2.2.2.1
theorem YdS_n3 {y b : Nat} {S : SmS} (h : YdS y b S) : sN S (y + 3) = 4 := h.2.2.2.2.2.2
def XSk (S : SmS) : Prop := sT S 0 = 1 ∧ sP S 0 0 = some 1 ∧ sT S 1 = 101 ∧ sN S 1 = 160 ∧ sP S 0 3 = some 2 ∧ sP S 0 4 = some 18 ∧ sP S 0 6 = some 24 ∧ sT S 24 = 17 ∧ sP S 24 0 = some 26 ∧ sP S 24 2 = some 25 ∧ sT S 25 = 10 ∧ sT S 26 = 107 ∧ sN S 26 = 8 ∧ sP S 0 7 = some 27 ∧ sP S 0 8 = some 43 ∧ sT S 43 = 105 ∧ sN S 43 = 2 ∧ sP S 43 0 = some 44 ∧ sP S 43 1 = some 63 ∧ sT S 44 = 4 ∧ sP S 44 0 = some 45 ∧ sP S 44 1 = some 61 ∧ sT S 63 = 4 ∧ sP S 63 0 = some 64 ∧ sP S 63 1 = some 80 ∧ sP S 0 9 = some 82 ∧ sT S 82 = 4 ∧ sP S 82 0 = some 83 ∧ sP S 82 1 = some 99 ∧ sP S 0 10 = some 101 ∧ sT S 101 = 106 ∧ sN S 101 = 4 ∧ sP S 101 0 = some 102 ∧ sP S 101 1 = some 103 ∧ sP S 101 2 = some 104 ∧ sP S 101 3 = some 105 ∧ sT S 102 = 5 ∧ sT S 103 = 5 ∧ sT S 104 = 5 ∧ sT S 105 = 5 ∧ LnS 2 S ∧ YdS 18 2 S ∧ LnS 27 S ∧ LnS 45 S ∧ LnS 64 S ∧ LnS 83 S
theorem XSk_t0 {S : SmS} (h : XSk S) : sT S 0 = 1 := h.1
theorem XSk_p0 {S : SmS} (h : XSk S) : sP S 0 0 = some 1 := h.2.1
theorem XSk_t1 {S : SmS} (h : XSk S) : sT S 1 = 101 := h.2.2.1
theorem XSk_n1 {S : SmS} (h : XSk S) : sN S 1 = 160 := h.2.2.2.1
theorem XSk_p3 {S : SmS} (h : XSk S) : sP S 0 3 = some 2 := h.2.2.2.2.1
theorem XSk_p4 {S : SmS} (h : XSk S) : sP S 0 4 = some 18 := h.2.2.2.2.2.1
theorem XSk_p6 {S : SmS} (h : XSk S) : sP S 0 6 = some 24 := h.2.2.2.2.2.2.1
theorem XSk_t24 {S : SmS} (h : XSk S) : sT S 24 = 17 := h.2.2.2.2.2.2.2.1
theorem XSk_q0 {S : SmS} (h : XSk S) : sP S 24 0 = some 26 := h.2.2.2.2.2.2.2.2.1
theorem XSk_q2 {S : SmS} (h : XSk S) : sP S 24 2 = some 25 := h.2.2.2.2.2.2.2.2.2.1
theorem XSk_t25 {S : SmS} (h : XSk S) : sT S 25 = 10 := h.2.2.2.2.2.2.2.2.2.2.1
theorem XSk_t26 {S : SmS} (h : XSk S) : sT S 26 = 107 := h.2.2.2.2.2.2.2.2.2.2.2.1
theorem XSk_n26 {S : SmS} (h : XSk S) : sN S 26 = 8 := h.2.2.2.2.2.2.2.2.2.2.2.2.1
theorem XSk_p7 {S : SmS} (h : XSk S) : sP S 0 7 = some 27 := h.2.2.2.2.2.2.2.2.2.2.2.2.2.1
theorem XSk_p8 {S : SmS} (h : XSk S) : sP S 0 8 = some 43 := h.2.2.2.2.2.2.2.2.2.2.2.2.2.2.1
theorem XSk_t43 {S : SmS} (h : XSk S) : sT S 43 = 105 := h.2.2.2.2.2.2.2.2.2.2.2.2.2.2.2.1
theorem XSk_n43 {S : SmS} (h : XSk S) : sN S 43 = 2 := h.2.2.2.2.2.2.2.2.2.2.2.2.2.2.2.2.1
theorem XSk_i0 {S : SmS} (h : XSk S) : sP S 43 0 = some 44 := h.2.2.2.2.2.2.2.2.2.2.2.2.2.2.2.2.2.1
theorem XSk_i1 {S : SmS} (h : XSk S) : sP S 43 1 = some 63 := h.2.2.2.2.2.2.2.2.2.2.2.2.2.2.2.2.2.2.1
theorem XSk_t44 {S : SmS} (h : XSk S) : sT S 44 = 4 := h.2.2.2.2.2.2.2.2.2.2.2.2.2.2.2.2.2.2.2.1
theorem XSk_j0 {S : SmS} (h : XSk S) : sP S 44 0 = some 45 := h.2.2.2.2.2.2.2.2.2.2.2.2.2.2.2.2.2.2.2.2.1
theorem XSk_j1 {S : SmS} (h : XSk S) : sP S 44 1 = some 61 := h.2.2.2.2.2.2.2.2.2.2.2.2.2.2.2.2.2.2.2.2.2.1
theorem XSk_t63 {S : SmS} (h : XSk S) : sT S 63 = 4 := h.2.2.2.2.2.2.2.2.2.2.2.2.2.2.2.2.2.2.2.2.2.2.1
theorem XSk_k0 {S : SmS} (h : XSk S) : sP S 63 0 = some 64 := h.2.2.2.2.2.2.2.2.2.2.2.2.2.2.2.2.2.2.2.2.2.2.2.1
theorem XSk_k1 {S : SmS} (h : XSk S) : sP S 63 1 = some 80 := h.2.2.2.2.2.2.2.2.2.2.2.2.2.2.2.2.2.2.2.2.2.2.2.2.1
theorem XSk_p9 {S : SmS} (h : XSk S) : sP S 0 9 = some 82 := h.2.2.2.2.2.2.2.2.2.2.2.2.2.2.2.2.2.2.2.2.2.2.2.2.2.1
theorem XSk_t82 {S : SmS} (h : XSk S) : sT S 82 = 4 := h.2.2.2.2.2.2.2.2.2.2.2.2.2.2.2.2.2.2.2.2.2.2.2.2.2.2.1
theorem XSk_a0 {S : SmS} (h : XSk S) : sP S 82 0 = some 83 := h.2.2.2.2.2.2.2.2.2.2.2.2.2.2.2.2.2.2.2.2.2.2.2.2.2.2.2.1
theorem XSk_a1 {S : SmS} (h : XSk S) : sP S 82 1 = some 99 := h.2.2.2.2.2.2.2.2.2.2.2.2.2.2.2.2.2.2.2.2.2.2.2.2.2.2.2.2.1
theorem XSk_p10 {S : SmS} (h : XSk S) : sP S 0 10 = some 101 := h.2.2.2.2.2.2.2.2.2.2.2.2.2.2.2.2.2.2.2.2.2.2.2.2.2.2.2.2.2.1
theorem XSk_t101 {S : SmS} (h : XSk S) : sT S 101 = 106 := h.2.2.2.2.2.2.2.2.2.2.2.2.2.2.2.2.2.2.2.2.2.2.2.2.2.2.2.2.2.2.1
theorem XSk_n101 {S : SmS} (h : XSk S) : sN S 101 = 4 := h.2.2.2.2.2.2.2.2.2.2.2.2.2.2.2.2.2.2.2.2.2.2.2.2.2.2.2.2.2.2.2.1
theorem XSk_s0 {S : SmS} (h : XSk S) : sP S 101 0 = some 102 := h.2.2.2.2.2.2.2.2.2.2.2.2.2.2.2.2.2.2.2.2.2.2.2.2.2.2.2.2.2.2.2.2.1
theorem XSk_s1 {S : SmS} (h : XSk S) : sP S 101 1 = some 103 := h.2.2.2.2.2.2.2.2.2.2.2.2.2.2.2.2.2.2.2.2.2.2.2.2.2.2.2.2.2.2.2.2.2.1
theorem XSk_s2 {S : SmS} (h : XSk S) : sP S 101 2 = some 104 := h.2.2.2.2.2.2.2.2.2.2.2.2.2.2.2.2.2.2.2.2.2.2.2.2.2.2.2.2.2.2.2.2.2.2.1
theorem XSk_s3 {S : SmS} (h : XSk S) : sP S 101 3 = some 105 := h.2.2.2.2.2.2.2.2.2.2.2.2.2.2.2.2.2.2.2.2.2.2.2.2.2.2.2.2.2.2.2.2.2.2.2.1
theorem XSk_t102 {S : SmS} (h : XSk S) : sT S 102 = 5 := h.2.2.2.2.2.2.2.2.2.2.2.2.2.2.2.2.2.2.2.2.2.2.2.2.2.2.2.2.2.2.2.2.2.2.2.2.1
theorem XSk_t103 {S : SmS} (h : XSk S) : sT S 103 = 5 := h.2.2.2.2.2.2.2.2.2.2.2.2.2.2.2.2.2.2.2.2.2.2.2.2.2.2.2.2.2.2.2.2.2.2.2.2.2.1
theorem XSk_t104 {S : SmS} (h : XSk S) : sT S 104 = 5 := h.2.2.2.2.2.2.2.2.2.2.2.2.2.2.2.2.2.2.2.2.2.2.2.2.2.2.2.2.2.2.2.2.2.2.2.2.2.2.1
theorem XSk_t105 {S : SmS} (h : XSk S) : sT S 105 = 5 := h.2.2.2.2.2.2.2.2.2.2.2.2.2.2.2.2.2.2.2.2.2.2.2.2.2.2.2.2.2.2.2.2.2.2.2.2.2.2.2.1
theorem XSk_now {S : SmS} (h : XSk S) : LnS 2 S := h.2.2.2.2.2.2.2.2.2.2.2.2.2.2.2.2.2.2.2.2.2.2.2.2.2.2.2.2.2.2.2.2.2.2.2.2.2.2.2.2.1
theorem XSk_yrd {S : SmS} (h : XSk S) : YdS 18 2 S := h.2.2.2.2.2.2.2.2.2.2.2.2.2.2.2.2.2.2.2.2.2.2.2.2.2.2.2.2.2.2.2.2.2.2.2.2.2.2.2.2.2.1
theorem XSk_drm {S : SmS} (h : XSk S) : LnS 27 S := h.2.2.2.2.2.2.2.2.2.2.2.2.2.2.2.2.2.2.2.2.2.2.2.2.2.2.2.2.2.2.2.2.2.2.2.2.2.2.2.2.2.2.1
theorem XSk_im0 {S : SmS} (h : XSk S) : LnS 45 S := h.2.2.2.2.2.2.2.2.2.2.2.2.2.2.2.2.2.2.2.2.2.2.2.2.2.2.2.2.2.2.2.2.2.2.2.2.2.2.2.2.2.2.2.1
theorem XSk_im1 {S : SmS} (h : XSk S) : LnS 64 S := h.2.2.2.2.2.2.2.2.2.2.2.2.2.2.2.2.2.2.2.2.2.2.2.2.2.2.2.2.2.2.2.2.2.2.2.2.2.2.2.2.2.2.2.2.1
theorem XSk_asd {S : SmS} (h : XSk S) : LnS 83 S := h.2.2.2.2.2.2.2.2.2.2.2.2.2.2.2.2.2.2.2.2.2.2.2.2.2.2.2.2.2.2.2.2.2.2.2.2.2.2.2.2.2.2.2.2.2
theorem now_t {S : SmS} (h : LnS 2 S) : sT S 2 = 2 := h.1.1
theorem now_p0 {S : SmS} (h : LnS 2 S) : sP S 2 0 = some (3) := h.1.2.1
theorem now_t1 {S : SmS} (h : LnS 2 S) : sT S (3) = 104 := h.1.2.2.1
theorem now_n1 {S : SmS} (h : LnS 2 S) : sN S (3) = 6 := h.1.2.2.2
theorem now_rp {S : SmS} (h : LnS 2 S) {p : Int} (h0 : 0 ≤ p) (h1 : p < 6) : sP S (3) p = some (4 + p.toNat) := by
  have := (h.2.1 p.toNat (by omega)).1
  rw [show ((p.toNat : Nat) : Int) = p by omega] at this
  exact this
theorem now_rt {S : SmS} (h : LnS 2 S) {p : Int} (h0 : 0 ≤ p) (h1 : p < 6) : sT S (4 + p.toNat) = 100 := (h.2.1 p.toNat (by omega)).2.1
theorem now_rn {S : SmS} (h : LnS 2 S) {p : Int} (h0 : 0 ≤ p) (h1 : p < 6) : sN S (4 + p.toNat) = 3 := (h.2.1 p.toNat (by omega)).2.2
theorem now_p1 {S : SmS} (h : LnS 2 S) : sP S 2 1 = some (10) := h.2.2.1.1
theorem now_t8 {S : SmS} (h : LnS 2 S) : sT S (10) = 100 := h.2.2.1.2.1
theorem now_n8 {S : SmS} (h : LnS 2 S) : sN S (10) = 6 := h.2.2.1.2.2
theorem now_p2 {S : SmS} (h : LnS 2 S) : sP S 2 2 = some (11) := h.2.2.2.1.1
theorem now_t9 {S : SmS} (h : LnS 2 S) : sT S (11) = 100 := h.2.2.2.1.2.1
theorem now_n9 {S : SmS} (h : LnS 2 S) : sN S (11) = 6 := h.2.2.2.1.2.2
theorem now_p4 {S : SmS} (h : LnS 2 S) : sP S 2 4 = some (12) := h.2.2.2.2.1.1
theorem now_t10 {S : SmS} (h : LnS 2 S) : sT S (12) = 100 := h.2.2.2.2.1.2.1
theorem now_n10 {S : SmS} (h : LnS 2 S) : sN S (12) = 4 := h.2.2.2.2.1.2.2
theorem now_p5 {S : SmS} (h : LnS 2 S) : sP S 2 5 = some (13) := h.2.2.2.2.2.1.1
theorem now_t11 {S : SmS} (h : LnS 2 S) : sT S (13) = 100 := h.2.2.2.2.2.1.2.1
theorem now_n11 {S : SmS} (h : LnS 2 S) : sN S (13) = 4 := h.2.2.2.2.2.1.2.2
theorem now_p6 {S : SmS} (h : LnS 2 S) : sP S 2 6 = some (14) := h.2.2.2.2.2.2.1.1
theorem now_t12 {S : SmS} (h : LnS 2 S) : sT S (14) = 100 := h.2.2.2.2.2.2.1.2.1
theorem now_n12 {S : SmS} (h : LnS 2 S) : sN S (14) = 4 := h.2.2.2.2.2.2.1.2.2
theorem now_p7 {S : SmS} (h : LnS 2 S) : sP S 2 7 = some (15) := h.2.2.2.2.2.2.2.1.1
theorem now_t13 {S : SmS} (h : LnS 2 S) : sT S (15) = 100 := h.2.2.2.2.2.2.2.1.2.1
theorem now_n13 {S : SmS} (h : LnS 2 S) : sN S (15) = 4 := h.2.2.2.2.2.2.2.1.2.2
theorem now_p8 {S : SmS} (h : LnS 2 S) : sP S 2 8 = some (16) := h.2.2.2.2.2.2.2.2.1.1
theorem now_t14 {S : SmS} (h : LnS 2 S) : sT S (16) = 102 := h.2.2.2.2.2.2.2.2.1.2.1
theorem now_n14 {S : SmS} (h : LnS 2 S) : sN S (16) = 4 := h.2.2.2.2.2.2.2.2.1.2.2
theorem now_p9 {S : SmS} (h : LnS 2 S) : sP S 2 9 = some (17) := h.2.2.2.2.2.2.2.2.2.1
theorem now_t15 {S : SmS} (h : LnS 2 S) : sT S (17) = 100 := h.2.2.2.2.2.2.2.2.2.2.1
theorem now_n15 {S : SmS} (h : LnS 2 S) : sN S (17) = 4 := h.2.2.2.2.2.2.2.2.2.2.2
theorem yrd_t {S : SmS} (h : YdS 18 2 S) : sT S 18 = 3 := h.1
theorem yrd_p0 {S : SmS} (h : YdS 18 2 S) : sP S 18 0 = some 2 := h.2.1
theorem yrd_p1 {S : SmS} (h : YdS 18 2 S) : sP S 18 1 = some (19) := h.2.2.1.1
theorem yrd_t1 {S : SmS} (h : YdS 18 2 S) : sT S (19) = 101 := h.2.2.1.2.1
theorem yrd_n1 {S : SmS} (h : YdS 18 2 S) : sN S (19) = 2401 := h.2.2.1.2.2
theorem yrd_p2 {S : SmS} (h : YdS 18 2 S) : sP S 18 2 = some (20) := h.2.2.2.1.1
theorem yrd_t2 {S : SmS} (h : YdS 18 2 S) : sT S (20) = 102 := h.2.2.2.1.2.1
theorem yrd_n2 {S : SmS} (h : YdS 18 2 S) : sN S (20) = 2401 := h.2.2.2.1.2.2
theorem yrd_p3 {S : SmS} (h : YdS 18 2 S) : sP S 18 3 = some (21) := h.2.2.2.2.1
theorem yrd_t3 {S : SmS} (h : YdS 18 2 S) : sT S (21) = 100 := h.2.2.2.2.2.1
theorem yrd_n3 {S : SmS} (h : YdS 18 2 S) : sN S (21) = 4 := h.2.2.2.2.2.2
