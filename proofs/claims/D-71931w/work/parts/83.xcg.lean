/-! the skeleton stands where nothing of it has changed (printed) -/
set_option maxRecDepth 100000
/-- cells that a call may tie anew: the queue's row, X's own journal, sheets' rows, the trees -/
def xTie (v : Nat) (j : Int) : Prop := v = 26 ∨ (v = 0 ∧ j = 5) ∨ (102 ≤ v ∧ v < 106) ∨ v = 22 ∨ v = 23 ∨ v = 61 ∨ v = 62 ∨ v = 80 ∨ v = 81 ∨ v = 99 ∨ v = 100
def xSame (S S' : SmS) : Prop := (∀ v : Nat, v < 106 → sT S' v = sT S v ∧ sN S' v = sN S v) ∧ ∀ (v : Nat) (j : Int), v < 106 → ¬ xTie v j → sP S' v j = sP S v j
theorem LnS_cg {b : Nat} {S S' : SmS} (h : LnS b S) (hT : ∀ v : Nat, b ≤ v → v < b + 16 → sT S' v = sT S v ∧ sN S' v = sN S v) (hP : ∀ (v : Nat) (j : Int), b ≤ v → v < b + 16 → sP S' v j = sP S v j) : LnS b S' := by
  unfold LnS at h ⊢
  rw [(hT b (by omega) (by omega)).1, (hT (b + 1) (by omega) (by omega)).1, (hT (b + 1) (by omega) (by omega)).2, (hT (b + 8) (by omega) (by omega)).1, (hT (b + 8) (by omega) (by omega)).2, (hT (b + 9) (by omega) (by omega)).1, (hT (b + 9) (by omega) (by omega)).2, (hT (b + 10) (by omega) (by omega)).1, (hT (b + 10) (by omega) (by omega)).2, (hT (b + 11) (by omega) (by omega)).1, (hT (b + 11) (by omega) (by omega)).2, (hT (b + 12) (by omega) (by omega)).1, (hT (b + 12) (by omega) (by omega)).2, (hT (b + 13) (by omega) (by omega)).1, (hT (b + 13) (by omega) (by omega)).2, (hT (b + 14) (by omega) (by omega)).1, (hT (b + 14) (by omega) (by omega)).2, (hT (b + 15) (by omega) (by omega)).1, (hT (b + 15) (by omega) (by omega)).2, hP b 0 (by omega) (by omega), hP b 1 (by omega) (by omega), hP b 2 (by omega) (by omega), hP b 4 (by omega) (by omega), hP b 5 (by omega) (by omega), hP b 6 (by omega) (by omega), hP b 7 (by omega) (by omega), hP b 8 (by omega) (by omega), hP b 9 (by omega) (by omega)]
  refine ⟨h.1, fun p hp => ?_, h.2.2⟩
  rw [(hT (b + 2 + p) (by omega) (by omega)).1, (hT (b + 2 + p) (by omega) (by omega)).2, hP (b + 1) p (by omega) (by omega)]
  exact h.2.1 p hp
theorem xSame_refl {S : SmS} : xSame S S := ⟨fun _ _ => ⟨rfl, rfl⟩, fun _ _ _ _ => rfl⟩
theorem xSame_trans {S S1 S2 : SmS} (h : xSame S S1) (h2 : xSame S1 S2) : xSame S S2 := ⟨fun v hv => ⟨(h2.1 v hv).1.trans (h.1 v hv).1, (h2.1 v hv).2.trans (h.1 v hv).2⟩, fun v j hv hj => (h2.2 v j hv hj).trans (h.2 v j hv hj)⟩
theorem XSk_cg {S S' : SmS} (h : XSk S) (h2 : xSame S S') : XSk S' := by
  have yd : YdS 18 2 S' := by
    have q := XSk_yrd h
    unfold YdS at q ⊢
    rw [(h2.1 18 (by omega)).1, (h2.1 (18 + 1) (by omega)).1, (h2.1 (18 + 1) (by omega)).2, (h2.1 (18 + 2) (by omega)).1, (h2.1 (18 + 2) (by omega)).2, (h2.1 (18 + 3) (by omega)).1, (h2.1 (18 + 3) (by omega)).2, h2.2 18 0 (by omega) (by unfold xTie; omega), h2.2 18 1 (by omega) (by unfold xTie; omega), h2.2 18 2 (by omega) (by unfold xTie; omega), h2.2 18 3 (by omega) (by unfold xTie; omega)]
    exact q
  exact ⟨by rw [(h2.1 0 (by omega)).1]; exact XSk_t0 h,
    by rw [h2.2 0 0 (by omega) (by unfold xTie; omega)]; exact XSk_p0 h,
    by rw [(h2.1 1 (by omega)).1]; exact XSk_t1 h,
    by rw [(h2.1 1 (by omega)).2]; exact XSk_n1 h,
    by rw [h2.2 0 3 (by omega) (by unfold xTie; omega)]; exact XSk_p3 h,
    by rw [h2.2 0 4 (by omega) (by unfold xTie; omega)]; exact XSk_p4 h,
    by rw [h2.2 0 6 (by omega) (by unfold xTie; omega)]; exact XSk_p6 h,
    by rw [(h2.1 24 (by omega)).1]; exact XSk_t24 h,
    by rw [h2.2 24 0 (by omega) (by unfold xTie; omega)]; exact XSk_q0 h,
    by rw [h2.2 24 2 (by omega) (by unfold xTie; omega)]; exact XSk_q2 h,
    by rw [(h2.1 25 (by omega)).1]; exact XSk_t25 h,
    by rw [(h2.1 26 (by omega)).1]; exact XSk_t26 h,
    by rw [(h2.1 26 (by omega)).2]; exact XSk_n26 h,
    by rw [h2.2 0 7 (by omega) (by unfold xTie; omega)]; exact XSk_p7 h,
    by rw [h2.2 0 8 (by omega) (by unfold xTie; omega)]; exact XSk_p8 h,
    by rw [(h2.1 43 (by omega)).1]; exact XSk_t43 h,
    by rw [(h2.1 43 (by omega)).2]; exact XSk_n43 h,
    by rw [h2.2 43 0 (by omega) (by unfold xTie; omega)]; exact XSk_i0 h,
    by rw [h2.2 43 1 (by omega) (by unfold xTie; omega)]; exact XSk_i1 h,
    by rw [(h2.1 44 (by omega)).1]; exact XSk_t44 h,
    by rw [h2.2 44 0 (by omega) (by unfold xTie; omega)]; exact XSk_j0 h,
    by rw [h2.2 44 1 (by omega) (by unfold xTie; omega)]; exact XSk_j1 h,
    by rw [(h2.1 63 (by omega)).1]; exact XSk_t63 h,
    by rw [h2.2 63 0 (by omega) (by unfold xTie; omega)]; exact XSk_k0 h,
    by rw [h2.2 63 1 (by omega) (by unfold xTie; omega)]; exact XSk_k1 h,
    by rw [h2.2 0 9 (by omega) (by unfold xTie; omega)]; exact XSk_p9 h,
    by rw [(h2.1 82 (by omega)).1]; exact XSk_t82 h,
    by rw [h2.2 82 0 (by omega) (by unfold xTie; omega)]; exact XSk_a0 h,
    by rw [h2.2 82 1 (by omega) (by unfold xTie; omega)]; exact XSk_a1 h,
    by rw [h2.2 0 10 (by omega) (by unfold xTie; omega)]; exact XSk_p10 h,
    by rw [(h2.1 101 (by omega)).1]; exact XSk_t101 h,
    by rw [(h2.1 101 (by omega)).2]; exact XSk_n101 h,
    by rw [h2.2 101 0 (by omega) (by unfold xTie; omega)]; exact XSk_s0 h,
    by rw [h2.2 101 1 (by omega) (by unfold xTie; omega)]; exact XSk_s1 h,
    by rw [h2.2 101 2 (by omega) (by unfold xTie; omega)]; exact XSk_s2 h,
    by rw [h2.2 101 3 (by omega) (by unfold xTie; omega)]; exact XSk_s3 h,
    by rw [(h2.1 102 (by omega)).1]; exact XSk_t102 h,
    by rw [(h2.1 103 (by omega)).1]; exact XSk_t103 h,
    by rw [(h2.1 104 (by omega)).1]; exact XSk_t104 h,
    by rw [(h2.1 105 (by omega)).1]; exact XSk_t105 h,
    LnS_cg (XSk_now h) (fun v _ _ => h2.1 v (by omega)) (fun v j _ _ => h2.2 v j (by omega) (by unfold xTie; omega)),
    yd,
    LnS_cg (XSk_drm h) (fun v _ _ => h2.1 v (by omega)) (fun v j _ _ => h2.2 v j (by omega) (by unfold xTie; omega)),
    LnS_cg (XSk_im0 h) (fun v _ _ => h2.1 v (by omega)) (fun v j _ _ => h2.2 v j (by omega) (by unfold xTie; omega)),
    LnS_cg (XSk_im1 h) (fun v _ _ => h2.1 v (by omega)) (fun v j _ _ => h2.2 v j (by omega) (by unfold xTie; omega)),
    LnS_cg (XSk_asd h) (fun v _ _ => h2.1 v (by omega)) (fun v j _ _ => h2.2 v j (by omega) (by unfold xTie; omega))⟩
