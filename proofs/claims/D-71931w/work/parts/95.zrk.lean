/-! regions of methods, printed by gen/regions.py -/
set_option maxRecDepth 100000
def tr_J22_requireNonNull_0 (d : Nat) (Rq : SmQ) (l : SmL) (st : List SmV) (S : SmS) (I : SmI) : Prop :=
  im_aload 0 l st S I fun l st S I =>
  im_ifnn l st S I (fun l st S I =>
  im_aload 0 l st S I fun l st S I =>
  im_areturn Rq l st S I) (fun l st S I =>
  False)
theorem rv_J22_requireNonNull_0 {d : Nat} {Rq : SmQ} {l : SmL} {st : List SmV} {S : SmS} {I : SmI} (h : tr_J22_requireNonNull_0 d Rq l st S I) : SW mi_J22_requireNonNull 0 d Rq l st S I :=
  (show SmW mi_J22_requireNonNull 0 d Rq (tr_J22_requireNonNull_0 d Rq) from
  (xv_aload_n dJ22_requireNonNull_0 rfl
  (xv_ifnn dJ22_requireNonNull_1 rfl
  (xv_aload_n dJ22_requireNonNull_12 rfl
  (xv_areturn dJ22_requireNonNull_13 rfl rfl))
  (fun _ _ _ _ h => h.elim)))) l st S I h
def tr_J22_requireNonNull_11 (d : Nat) (Rq : SmQ) (l : SmL) (st : List SmV) (S : SmS) (I : SmI) : Prop :=
  im_athrow mi_J22_requireNonNull 11 d Rq l st S I
theorem rv_J22_requireNonNull_11 {d : Nat} {Rq : SmQ} {l : SmL} {st : List SmV} {S : SmS} {I : SmI} (h : tr_J22_requireNonNull_11 d Rq l st S I) : SW mi_J22_requireNonNull 11 d Rq l st S I :=
  (show SmW mi_J22_requireNonNull 11 d Rq (tr_J22_requireNonNull_11 d Rq) from
  (xv_athrow dJ22_requireNonNull_11)) l st S I h
