/-! regions of methods, printed by gen/regions.py -/
set_option maxRecDepth 100000
/- X6_flag: cut at [0] -/
abbrev mi_X6_flag : SmM := (yX6_flag, cX6_flag, 1, (some FieldType.int : Option FieldType), [])
theorem ok_X6_flag : callOk mi_X6_flag 1 := ⟨rfl, rfl, Nat.le_of_ble_eq_true rfl, by decide, by decide, by decide +kernel⟩
theorem ent_X6_flag (x0 : Int) : entL (mL mi_X6_flag) [vI x0] = [some (vI x0)] := rfl
/- X6_in: cut at [0] -/
abbrev mi_X6_in : SmM := (yX6_in, cX6_in, 6, (some FieldType.boolean : Option FieldType), [])
theorem ok_X6_in : callOk mi_X6_in 3 := ⟨rfl, rfl, Nat.le_of_ble_eq_true rfl, by decide, by decide, by decide +kernel⟩
theorem ent_X6_in (x0 : Int) (x1 : Int) (x2 : Int) : entL (mL mi_X6_in) [vJ x0, vJ x1, vJ x2] = [some (vJ x0), none, some (vJ x1), none, some (vJ x2), none] := rfl
/- X6_ofTrain: cut at [0] -/
abbrev mi_X6_ofTrain : SmM := (yX6_ofTrain, cX6_ofTrain, 3, (some FieldType.int : Option FieldType), [])
theorem ok_X6_ofTrain : callOk mi_X6_ofTrain 2 := ⟨rfl, rfl, Nat.le_of_ble_eq_true rfl, by decide, by decide, by decide +kernel⟩
theorem ent_X6_ofTrain (x : Option Nat) (x0 : Int) (x1 : Int) : entL (mL mi_X6_ofTrain) [vR x, vI x0, vI x1] = [some (vR x), some (vI x0), some (vI x1)] := rfl
/- X6_ofPlace: cut at [0] -/
abbrev mi_X6_ofPlace : SmM := (yX6_ofPlace, cX6_ofPlace, 3, (some FieldType.int : Option FieldType), [])
theorem ok_X6_ofPlace : callOk mi_X6_ofPlace 2 := ⟨rfl, rfl, Nat.le_of_ble_eq_true rfl, by decide, by decide, by decide +kernel⟩
theorem ent_X6_ofPlace (x : Option Nat) (x0 : Int) (x1 : Int) : entL (mL mi_X6_ofPlace) [vR x, vI x0, vI x1] = [some (vR x), some (vI x0), some (vI x1)] := rfl
/- X6_weightOf: cut at [0] -/
abbrev mi_X6_weightOf : SmM := (yX6_weightOf, cX6_weightOf, 1, (some FieldType.int : Option FieldType), [])
theorem ok_X6_weightOf : callOk mi_X6_weightOf 1 := ⟨rfl, rfl, Nat.le_of_ble_eq_true rfl, by decide, by decide, by decide +kernel⟩
theorem ent_X6_weightOf (x0 : Int) : entL (mL mi_X6_weightOf) [vI x0] = [some (vI x0)] := rfl
/- X6_entry: cut at [0] -/
abbrev mi_X6_entry : SmM := (yX6_entry, cX6_entry, 3, (some FieldType.int : Option FieldType), [])
theorem ok_X6_entry : callOk mi_X6_entry 2 := ⟨rfl, rfl, Nat.le_of_ble_eq_true rfl, by decide, by decide, by decide +kernel⟩
theorem ent_X6_entry (x : Option Nat) (x0 : Int) (x1 : Int) : entL (mL mi_X6_entry) [vR x, vI x0, vI x1] = [some (vR x), some (vI x0), some (vI x1)] := rfl
/- X6_byteAt: cut at [0] -/
abbrev mi_X6_byteAt : SmM := (yX6_byteAt, cX6_byteAt, 2, (some FieldType.int : Option FieldType), [])
theorem ok_X6_byteAt : callOk mi_X6_byteAt 1 := ⟨rfl, rfl, Nat.le_of_ble_eq_true rfl, by decide, by decide, by decide +kernel⟩
theorem ent_X6_byteAt (x : Option Nat) (x0 : Int) : entL (mL mi_X6_byteAt) [vR x, vI x0] = [some (vR x), some (vI x0)] := rfl
/- X6_requires: cut at [0] -/
abbrev mi_X6_requires : SmM := (yX6_requires, cX6_requires, 3, (none : Option FieldType), [])
theorem ok_X6_requires : callOk mi_X6_requires 2 := ⟨rfl, rfl, Nat.le_of_ble_eq_true rfl, by decide, by decide, by decide +kernel⟩
theorem ent_X6_requires (x : Option Nat) (x0 : Int) (x1 : Int) : entL (mL mi_X6_requires) [vR x, vI x0, vI x1] = [some (vR x), some (vI x0), some (vI x1)] := rfl
/- X6_fault: cut at [0] -/
abbrev mi_X6_fault : SmM := (yX6_fault, cX6_fault, 1, (some FieldType.int : Option FieldType), [])
theorem ok_X6_fault : callOk mi_X6_fault 0 := ⟨rfl, rfl, Nat.le_of_ble_eq_true rfl, by decide, by decide, by decide +kernel⟩
theorem ent_X6_fault (x : Option Nat) : entL (mL mi_X6_fault) [vR x] = [some (vR x)] := rfl
/- X6_torn: cut at [0] -/
abbrev mi_X6_torn : SmM := (yX6_torn, cX6_torn, 1, (some FieldType.int : Option FieldType), [])
theorem ok_X6_torn : callOk mi_X6_torn 0 := ⟨rfl, rfl, Nat.le_of_ble_eq_true rfl, by decide, by decide, by decide +kernel⟩
theorem ent_X6_torn (x : Option Nat) : entL (mL mi_X6_torn) [vR x] = [some (vR x)] := rfl
/- X6_keepBefore: cut at [0, 2] -/
abbrev mi_X6_keepBefore : SmM := (yX6_keepBefore, cX6_keepBefore, 2, (none : Option FieldType), [])
theorem ok_X6_keepBefore : callOk mi_X6_keepBefore 0 := ⟨rfl, rfl, Nat.le_of_ble_eq_true rfl, by decide, by decide, by decide +kernel⟩
theorem ent_X6_keepBefore (x : Option Nat) : entL (mL mi_X6_keepBefore) [vR x] = [some (vR x), none] := rfl
/- X6_backBefore: cut at [0, 2] -/
abbrev mi_X6_backBefore : SmM := (yX6_backBefore, cX6_backBefore, 2, (none : Option FieldType), [])
theorem ok_X6_backBefore : callOk mi_X6_backBefore 0 := ⟨rfl, rfl, Nat.le_of_ble_eq_true rfl, by decide, by decide, by decide +kernel⟩
theorem ent_X6_backBefore (x : Option Nat) : entL (mL mi_X6_backBefore) [vR x] = [some (vR x), none] := rfl
/- X6_init: cut at [0, 122] -/
abbrev mi_X6_init : SmM := (yX6_init, cX6_init, 2, (none : Option FieldType), [])
theorem ok_X6_init : callOk mi_X6_init 0 := ⟨rfl, rfl, Nat.le_of_ble_eq_true rfl, by decide, by decide, by decide +kernel⟩
theorem ent_X6_init (x : Option Nat) : entL (mL mi_X6_init) [vR x] = [some (vR x), none] := rfl
def tr_X6_flag_0 (d : Nat) (Rq : SmQ) (l : SmL) (st : List SmV) (S : SmS) (I : SmI) : Prop :=
  im_iload 0 l st S I fun l st S I =>
  im_zeq l st S I (fun l st S I =>
  im_ic 0 l st S I fun l st S I =>
  im_ireturn Rq l st S I) (fun l st S I =>
  im_ic 1 l st S I fun l st S I =>
  im_ireturn Rq l st S I)
theorem rv_X6_flag_0 {d : Nat} {Rq : SmQ} {l : SmL} {st : List SmV} {S : SmS} {I : SmI} (h : tr_X6_flag_0 d Rq l st S I) : SW mi_X6_flag 0 d Rq l st S I :=
  (show SmW mi_X6_flag 0 d Rq (tr_X6_flag_0 d Rq) from
  (xv_iload_n dX6_flag_0 rfl
  (xv_zeq dX6_flag_1 rfl
  (xv_iconst dX6_flag_8 rfl (inRd rfl)
  (xv_ireturn dX6_flag_9 rfl))
  (xv_iconst dX6_flag_4 rfl (inRd rfl)
  (xv_goto dX6_flag_5 rfl (xv_ireturn dX6_flag_9 rfl)))))) l st S I h
def tr_X6_in_0 (d : Nat) (Rq : SmQ) (l : SmL) (st : List SmV) (S : SmS) (I : SmI) : Prop :=
  im_lload 0 l st S I fun l st S I =>
  im_lload 2 l st S I fun l st S I =>
  im_lcmp l st S I fun l st S I =>
  im_zlt l st S I (fun l st S I =>
  im_ic 0 l st S I fun l st S I =>
  im_zreturn Rq l st S I) (fun l st S I =>
  im_lload 0 l st S I fun l st S I =>
  im_lload 4 l st S I fun l st S I =>
  im_lcmp l st S I fun l st S I =>
  im_zgt l st S I (fun l st S I =>
  im_ic 0 l st S I fun l st S I =>
  im_zreturn Rq l st S I) (fun l st S I =>
  im_ic 1 l st S I fun l st S I =>
  im_zreturn Rq l st S I))
theorem rv_X6_in_0 {d : Nat} {Rq : SmQ} {l : SmL} {st : List SmV} {S : SmS} {I : SmI} (h : tr_X6_in_0 d Rq l st S I) : SW mi_X6_in 0 d Rq l st S I :=
  (show SmW mi_X6_in 0 d Rq (tr_X6_in_0 d Rq) from
  (xv_lload_n dX6_in_0 rfl
  (xv_lload_n dX6_in_1 rfl
  (xv_lcmp dX6_in_2
  (xv_zlt dX6_in_3 rfl
  (xv_iconst dX6_in_17 rfl (inRd rfl)
  (xv_zreturn dX6_in_18 rfl))
  (xv_lload_n dX6_in_6 rfl
  (xv_lload dX6_in_7
  (xv_lcmp dX6_in_9
  (xv_zgt dX6_in_10 rfl
  (xv_iconst dX6_in_17 rfl (inRd rfl)
  (xv_zreturn dX6_in_18 rfl))
  (xv_iconst dX6_in_13 rfl (inRd rfl)
  (xv_goto dX6_in_14 rfl (xv_zreturn dX6_in_18 rfl)))))))))))) l st S I h
def tr_X6_ofTrain_0 (d : Nat) (Rq : SmQ) (l : SmL) (st : List SmV) (S : SmS) (I : SmI) : Prop :=
  im_aload 0 l st S I fun l st S I =>
  im_getR 11 0 l st S I fun l st S I =>
  im_ic 34 l st S I fun l st S I =>
  im_ic 6 l st S I fun l st S I =>
  im_iload 1 l st S I fun l st S I =>
  im_imul l st S I fun l st S I =>
  im_iadd l st S I fun l st S I =>
  im_iload 2 l st S I fun l st S I =>
  im_iadd l st S I fun l st S I =>
  im_ald 100 l st S I fun l st S I =>
  im_ireturn Rq l st S I
theorem rv_X6_ofTrain_0 {d : Nat} {Rq : SmQ} {l : SmL} {st : List SmV} {S : SmS} {I : SmI} (h : tr_X6_ofTrain_0 d Rq l st S I) : SW mi_X6_ofTrain 0 d Rq l st S I :=
  (show SmW mi_X6_ofTrain 0 d Rq (tr_X6_ofTrain_0 d Rq) from
  (xv_aload_n dX6_ofTrain_0 rfl
  (xv_getR (k := 0) dX6_ofTrain_1 cl_11 tg_11 in_X6 (Nat.le_of_ble_eq_true rfl) rfl q1862
  (xv_bipush dX6_ofTrain_4 rfl (inRd rfl)
  (xv_bipush dX6_ofTrain_6 rfl (inRd rfl)
  (xv_iload_n dX6_ofTrain_8 rfl
  (xv_imul dX6_ofTrain_9
  (xv_iadd dX6_ofTrain_10
  (xv_iload_n dX6_ofTrain_11 rfl
  (xv_iadd dX6_ofTrain_12
  (xv_iald dX6_ofTrain_13
  (xv_ireturn dX6_ofTrain_14 rfl)))))))))))) l st S I h
def tr_X6_ofPlace_0 (d : Nat) (Rq : SmQ) (l : SmL) (st : List SmV) (S : SmS) (I : SmI) : Prop :=
  im_aload 0 l st S I fun l st S I =>
  im_getR 11 0 l st S I fun l st S I =>
  im_ic 4 l st S I fun l st S I =>
  im_ic 5 l st S I fun l st S I =>
  im_iload 1 l st S I fun l st S I =>
  im_imul l st S I fun l st S I =>
  im_iadd l st S I fun l st S I =>
  im_iload 2 l st S I fun l st S I =>
  im_iadd l st S I fun l st S I =>
  im_ald 100 l st S I fun l st S I =>
  im_ireturn Rq l st S I
theorem rv_X6_ofPlace_0 {d : Nat} {Rq : SmQ} {l : SmL} {st : List SmV} {S : SmS} {I : SmI} (h : tr_X6_ofPlace_0 d Rq l st S I) : SW mi_X6_ofPlace 0 d Rq l st S I :=
  (show SmW mi_X6_ofPlace 0 d Rq (tr_X6_ofPlace_0 d Rq) from
  (xv_aload_n dX6_ofPlace_0 rfl
  (xv_getR (k := 0) dX6_ofPlace_1 cl_11 tg_11 in_X6 (Nat.le_of_ble_eq_true rfl) rfl q1862
  (xv_iconst dX6_ofPlace_4 rfl (inRd rfl)
  (xv_iconst dX6_ofPlace_5 rfl (inRd rfl)
  (xv_iload_n dX6_ofPlace_6 rfl
  (xv_imul dX6_ofPlace_7
  (xv_iadd dX6_ofPlace_8
  (xv_iload_n dX6_ofPlace_9 rfl
  (xv_iadd dX6_ofPlace_10
  (xv_iald dX6_ofPlace_11
  (xv_ireturn dX6_ofPlace_12 rfl)))))))))))) l st S I h
def tr_X6_weightOf_0 (d : Nat) (Rq : SmQ) (l : SmL) (st : List SmV) (S : SmS) (I : SmI) : Prop :=
  im_iload 0 l st S I fun l st S I =>
  im_zne l st S I (fun l st S I =>
  im_iload 0 l st S I fun l st S I =>
  im_ic 1 l st S I fun l st S I =>
  im_cne l st S I (fun l st S I =>
  im_iload 0 l st S I fun l st S I =>
  im_ic 2 l st S I fun l st S I =>
  im_cne l st S I (fun l st S I =>
  im_ic 343 l st S I fun l st S I =>
  im_ireturn Rq l st S I) (fun l st S I =>
  im_ic 49 l st S I fun l st S I =>
  im_ireturn Rq l st S I)) (fun l st S I =>
  im_ic 7 l st S I fun l st S I =>
  im_ireturn Rq l st S I)) (fun l st S I =>
  im_ic 1 l st S I fun l st S I =>
  im_ireturn Rq l st S I)
theorem rv_X6_weightOf_0 {d : Nat} {Rq : SmQ} {l : SmL} {st : List SmV} {S : SmS} {I : SmI} (h : tr_X6_weightOf_0 d Rq l st S I) : SW mi_X6_weightOf 0 d Rq l st S I :=
  (show SmW mi_X6_weightOf 0 d Rq (tr_X6_weightOf_0 d Rq) from
  (xv_iload_n dX6_weightOf_0 rfl
  (xv_zne dX6_weightOf_1 rfl
  (xv_iload_n dX6_weightOf_8 rfl
  (xv_iconst dX6_weightOf_9 rfl (inRd rfl)
  (xv_cne dX6_weightOf_10 rfl
  (xv_iload_n dX6_weightOf_18 rfl
  (xv_iconst dX6_weightOf_19 rfl (inRd rfl)
  (xv_cne dX6_weightOf_20 rfl
  (xv_sipush dX6_weightOf_28 rfl (inRd rfl)
  (xv_ireturn dX6_weightOf_31 rfl))
  (xv_bipush dX6_weightOf_23 rfl (inRd rfl)
  (xv_goto dX6_weightOf_25 rfl (xv_ireturn dX6_weightOf_31 rfl))))))
  (xv_bipush dX6_weightOf_13 rfl (inRd rfl)
  (xv_goto dX6_weightOf_15 rfl (xv_ireturn dX6_weightOf_31 rfl))))))
  (xv_iconst dX6_weightOf_4 rfl (inRd rfl)
  (xv_goto dX6_weightOf_5 rfl (xv_ireturn dX6_weightOf_31 rfl)))))) l st S I h
def tr_X6_entry_0 (d : Nat) (Rq : SmQ) (l : SmL) (st : List SmV) (S : SmS) (I : SmI) : Prop :=
  im_aload 0 l st S I fun l st S I =>
  im_getR 11 0 l st S I fun l st S I =>
  im_ic 58 l st S I fun l st S I =>
  im_ic 3 l st S I fun l st S I =>
  im_iload 1 l st S I fun l st S I =>
  im_imul l st S I fun l st S I =>
  im_iadd l st S I fun l st S I =>
  im_iload 2 l st S I fun l st S I =>
  im_iadd l st S I fun l st S I =>
  im_ald 100 l st S I fun l st S I =>
  im_ireturn Rq l st S I
theorem rv_X6_entry_0 {d : Nat} {Rq : SmQ} {l : SmL} {st : List SmV} {S : SmS} {I : SmI} (h : tr_X6_entry_0 d Rq l st S I) : SW mi_X6_entry 0 d Rq l st S I :=
  (show SmW mi_X6_entry 0 d Rq (tr_X6_entry_0 d Rq) from
  (xv_aload_n dX6_entry_0 rfl
  (xv_getR (k := 0) dX6_entry_1 cl_11 tg_11 in_X6 (Nat.le_of_ble_eq_true rfl) rfl q1862
  (xv_bipush dX6_entry_4 rfl (inRd rfl)
  (xv_iconst dX6_entry_6 rfl (inRd rfl)
  (xv_iload_n dX6_entry_7 rfl
  (xv_imul dX6_entry_8
  (xv_iadd dX6_entry_9
  (xv_iload_n dX6_entry_10 rfl
  (xv_iadd dX6_entry_11
  (xv_iald dX6_entry_12
  (xv_ireturn dX6_entry_13 rfl)))))))))))) l st S I h
def tr_X6_byteAt_0 (d : Nat) (Rq : SmQ) (l : SmL) (st : List SmV) (S : SmS) (I : SmI) : Prop :=
  im_iload 1 l st S I fun l st S I =>
  im_aload 0 l st S I fun l st S I =>
  im_getI 11 6 l st S I fun l st S I =>
  im_cge l st S I (fun l st S I =>
  im_ic (-1) l st S I fun l st S I =>
  im_ireturn Rq l st S I) (fun l st S I =>
  im_aload 0 l st S I fun l st S I =>
  im_getR 11 5 l st S I fun l st S I =>
  im_iload 1 l st S I fun l st S I =>
  im_ald 100 l st S I fun l st S I =>
  im_ireturn Rq l st S I)
theorem rv_X6_byteAt_0 {d : Nat} {Rq : SmQ} {l : SmL} {st : List SmV} {S : SmS} {I : SmI} (h : tr_X6_byteAt_0 d Rq l st S I) : SW mi_X6_byteAt 0 d Rq l st S I :=
  (show SmW mi_X6_byteAt 0 d Rq (tr_X6_byteAt_0 d Rq) from
  (xv_iload_n dX6_byteAt_0 rfl
  (xv_aload_n dX6_byteAt_1 rfl
  (xv_getI (k := 6) dX6_byteAt_2 cl_11 tg_11 in_X6 (Nat.le_of_ble_eq_true rfl) rfl q1868
  (xv_cge dX6_byteAt_5 rfl
  (xv_iconst dX6_byteAt_17 rfl (inRd rfl)
  (xv_ireturn dX6_byteAt_18 rfl))
  (xv_aload_n dX6_byteAt_8 rfl
  (xv_getR (k := 5) dX6_byteAt_9 cl_11 tg_11 in_X6 (Nat.le_of_ble_eq_true rfl) rfl q1867
  (xv_iload_n dX6_byteAt_12 rfl
  (xv_iald dX6_byteAt_13
  (xv_goto dX6_byteAt_14 rfl (xv_ireturn dX6_byteAt_18 rfl))))))))))) l st S I h
def tr_X6_requires_0 (d : Nat) (Rq : SmQ) (l : SmL) (st : List SmV) (S : SmS) (I : SmI) : Prop :=
  im_iload 1 l st S I fun l st S I =>
  im_zne l st S I (fun l st S I =>
  im_return Rq l st S I) (fun l st S I =>
  im_aload 0 l st S I fun l st S I =>
  im_getI 11 11 l st S I fun l st S I =>
  im_zne l st S I (fun l st S I =>
  im_return Rq l st S I) (fun l st S I =>
  im_aload 0 l st S I fun l st S I =>
  im_iload 2 l st S I fun l st S I =>
  im_putI 11 11 l st S I fun l st S I =>
  im_aload 0 l st S I fun l st S I =>
  im_aload 0 l st S I fun l st S I =>
  im_getI 11 8 l st S I fun l st S I =>
  im_putI 11 12 l st S I fun l st S I =>
  im_return Rq l st S I))
theorem rv_X6_requires_0 {d : Nat} {Rq : SmQ} {l : SmL} {st : List SmV} {S : SmS} {I : SmI} (h : tr_X6_requires_0 d Rq l st S I) : SW mi_X6_requires 0 d Rq l st S I :=
  (show SmW mi_X6_requires 0 d Rq (tr_X6_requires_0 d Rq) from
  (xv_iload_n dX6_requires_0 rfl
  (xv_zne dX6_requires_1 rfl
  (xv_return dX6_requires_24 rfl)
  (xv_aload_n dX6_requires_4 rfl
  (xv_getI (k := 11) dX6_requires_5 cl_11 tg_11 in_X6 (Nat.le_of_ble_eq_true rfl) rfl q1873
  (xv_zne dX6_requires_8 rfl
  (xv_return dX6_requires_24 rfl)
  (xv_aload_n dX6_requires_11 rfl
  (xv_iload_n dX6_requires_12 rfl
  (xv_putI (k := 11) dX6_requires_13 cl_11 tg_11 in_X6 tyX6_ok nmX6 (Nat.le_of_ble_eq_true rfl) rfl ⟨Or.inl q1873, Or.inl rfl⟩
  (xv_aload_n dX6_requires_16 rfl
  (xv_aload_n dX6_requires_17 rfl
  (xv_getI (k := 8) dX6_requires_18 cl_11 tg_11 in_X6 (Nat.le_of_ble_eq_true rfl) rfl q1870
  (xv_putI (k := 12) dX6_requires_21 cl_11 tg_11 in_X6 tyX6_ok nmX6 (Nat.le_of_ble_eq_true rfl) rfl ⟨Or.inl q1874, Or.inl rfl⟩
  (xv_return dX6_requires_24 rfl)))))))))))))) l st S I h
def tr_X6_fault_0 (d : Nat) (Rq : SmQ) (l : SmL) (st : List SmV) (S : SmS) (I : SmI) : Prop :=
  im_aload 0 l st S I fun l st S I =>
  im_getI 11 11 l st S I fun l st S I =>
  im_ireturn Rq l st S I
theorem rv_X6_fault_0 {d : Nat} {Rq : SmQ} {l : SmL} {st : List SmV} {S : SmS} {I : SmI} (h : tr_X6_fault_0 d Rq l st S I) : SW mi_X6_fault 0 d Rq l st S I :=
  (show SmW mi_X6_fault 0 d Rq (tr_X6_fault_0 d Rq) from
  (xv_aload_n dX6_fault_0 rfl
  (xv_getI (k := 11) dX6_fault_1 cl_11 tg_11 in_X6 (Nat.le_of_ble_eq_true rfl) rfl q1873
  (xv_ireturn dX6_fault_4 rfl)))) l st S I h
def tr_X6_torn_0 (d : Nat) (Rq : SmQ) (l : SmL) (st : List SmV) (S : SmS) (I : SmI) : Prop :=
  im_aload 0 l st S I fun l st S I =>
  im_getI 11 23 l st S I fun l st S I =>
  im_ireturn Rq l st S I
theorem rv_X6_torn_0 {d : Nat} {Rq : SmQ} {l : SmL} {st : List SmV} {S : SmS} {I : SmI} (h : tr_X6_torn_0 d Rq l st S I) : SW mi_X6_torn 0 d Rq l st S I :=
  (show SmW mi_X6_torn 0 d Rq (tr_X6_torn_0 d Rq) from
  (xv_aload_n dX6_torn_0 rfl
  (xv_getI (k := 23) dX6_torn_1 cl_11 tg_11 in_X6 (Nat.le_of_ble_eq_true rfl) rfl q1885
  (xv_ireturn dX6_torn_4 rfl)))) l st S I h
def tr_X6_keepBefore_0 (d : Nat) (Rq : SmQ) (l : SmL) (st : List SmV) (S : SmS) (I : SmI) : Prop :=
  im_ic 0 l st S I fun l st S I =>
  im_istore 1 l st S I fun l st S I =>
  SW mi_X6_keepBefore 2 d Rq l st S I
theorem rv_X6_keepBefore_0 {d : Nat} {Rq : SmQ} {l : SmL} {st : List SmV} {S : SmS} {I : SmI} (h : tr_X6_keepBefore_0 d Rq l st S I) : SW mi_X6_keepBefore 0 d Rq l st S I :=
  (show SmW mi_X6_keepBefore 0 d Rq (tr_X6_keepBefore_0 d Rq) from
  (xv_iconst dX6_keepBefore_0 rfl (inRd rfl)
  (xv_istore_n dX6_keepBefore_1 rfl (Nat.le_of_ble_eq_true rfl)
  (fun _ _ _ _ h => h)))) l st S I h
def tr_X6_keepBefore_2 (d : Nat) (Rq : SmQ) (l : SmL) (st : List SmV) (S : SmS) (I : SmI) : Prop :=
  im_iload 1 l st S I fun l st S I =>
  im_ic 238 l st S I fun l st S I =>
  im_cge l st S I (fun l st S I =>
  im_return Rq l st S I) (fun l st S I =>
  im_aload 0 l st S I fun l st S I =>
  im_getR 11 2 l st S I fun l st S I =>
  im_iload 1 l st S I fun l st S I =>
  im_aload 0 l st S I fun l st S I =>
  im_getR 11 0 l st S I fun l st S I =>
  im_iload 1 l st S I fun l st S I =>
  im_ald 100 l st S I fun l st S I =>
  im_iast l st S I fun l st S I =>
  im_iinc 1 1 l st S I fun l st S I =>
  SW mi_X6_keepBefore 2 d Rq l st S I)
theorem rv_X6_keepBefore_2 {d : Nat} {Rq : SmQ} {l : SmL} {st : List SmV} {S : SmS} {I : SmI} (h : tr_X6_keepBefore_2 d Rq l st S I) : SW mi_X6_keepBefore 2 d Rq l st S I :=
  (show SmW mi_X6_keepBefore 2 d Rq (tr_X6_keepBefore_2 d Rq) from
  (xv_iload_n dX6_keepBefore_2 rfl
  (xv_sipush dX6_keepBefore_3 rfl (inRd rfl)
  (xv_cge dX6_keepBefore_6 rfl
  (xv_return dX6_keepBefore_27 rfl)
  (xv_aload_n dX6_keepBefore_9 rfl
  (xv_getR (k := 2) dX6_keepBefore_10 cl_11 tg_11 in_X6 (Nat.le_of_ble_eq_true rfl) rfl q1864
  (xv_iload_n dX6_keepBefore_13 rfl
  (xv_aload_n dX6_keepBefore_14 rfl
  (xv_getR (k := 0) dX6_keepBefore_15 cl_11 tg_11 in_X6 (Nat.le_of_ble_eq_true rfl) rfl q1862
  (xv_iload_n dX6_keepBefore_18 rfl
  (xv_iald dX6_keepBefore_19
  (xv_iast dX6_keepBefore_20
  (xv_iinc dX6_keepBefore_21 (Nat.le_of_ble_eq_true rfl)
  (xv_goto dX6_keepBefore_24 rfl (fun _ _ _ _ h => h))))))))))))))) l st S I h
def tr_X6_backBefore_0 (d : Nat) (Rq : SmQ) (l : SmL) (st : List SmV) (S : SmS) (I : SmI) : Prop :=
  im_ic 0 l st S I fun l st S I =>
  im_istore 1 l st S I fun l st S I =>
  SW mi_X6_backBefore 2 d Rq l st S I
theorem rv_X6_backBefore_0 {d : Nat} {Rq : SmQ} {l : SmL} {st : List SmV} {S : SmS} {I : SmI} (h : tr_X6_backBefore_0 d Rq l st S I) : SW mi_X6_backBefore 0 d Rq l st S I :=
  (show SmW mi_X6_backBefore 0 d Rq (tr_X6_backBefore_0 d Rq) from
  (xv_iconst dX6_backBefore_0 rfl (inRd rfl)
  (xv_istore_n dX6_backBefore_1 rfl (Nat.le_of_ble_eq_true rfl)
  (fun _ _ _ _ h => h)))) l st S I h
def tr_X6_backBefore_2 (d : Nat) (Rq : SmQ) (l : SmL) (st : List SmV) (S : SmS) (I : SmI) : Prop :=
  im_iload 1 l st S I fun l st S I =>
  im_ic 238 l st S I fun l st S I =>
  im_cge l st S I (fun l st S I =>
  im_return Rq l st S I) (fun l st S I =>
  im_aload 0 l st S I fun l st S I =>
  im_getR 11 0 l st S I fun l st S I =>
  im_iload 1 l st S I fun l st S I =>
  im_aload 0 l st S I fun l st S I =>
  im_getR 11 2 l st S I fun l st S I =>
  im_iload 1 l st S I fun l st S I =>
  im_ald 100 l st S I fun l st S I =>
  im_iast l st S I fun l st S I =>
  im_iinc 1 1 l st S I fun l st S I =>
  SW mi_X6_backBefore 2 d Rq l st S I)
theorem rv_X6_backBefore_2 {d : Nat} {Rq : SmQ} {l : SmL} {st : List SmV} {S : SmS} {I : SmI} (h : tr_X6_backBefore_2 d Rq l st S I) : SW mi_X6_backBefore 2 d Rq l st S I :=
  (show SmW mi_X6_backBefore 2 d Rq (tr_X6_backBefore_2 d Rq) from
  (xv_iload_n dX6_backBefore_2 rfl
  (xv_sipush dX6_backBefore_3 rfl (inRd rfl)
  (xv_cge dX6_backBefore_6 rfl
  (xv_return dX6_backBefore_27 rfl)
  (xv_aload_n dX6_backBefore_9 rfl
  (xv_getR (k := 0) dX6_backBefore_10 cl_11 tg_11 in_X6 (Nat.le_of_ble_eq_true rfl) rfl q1862
  (xv_iload_n dX6_backBefore_13 rfl
  (xv_aload_n dX6_backBefore_14 rfl
  (xv_getR (k := 2) dX6_backBefore_15 cl_11 tg_11 in_X6 (Nat.le_of_ble_eq_true rfl) rfl q1864
  (xv_iload_n dX6_backBefore_18 rfl
  (xv_iald dX6_backBefore_19
  (xv_iast dX6_backBefore_20
  (xv_iinc dX6_backBefore_21 (Nat.le_of_ble_eq_true rfl)
  (xv_goto dX6_backBefore_24 rfl (fun _ _ _ _ h => h))))))))))))))) l st S I h
def tr_X6_init_0 (d : Nat) (Rq : SmQ) (l : SmL) (st : List SmV) (S : SmS) (I : SmI) : Prop :=
  im_aload 0 l st S I fun l st S I =>
  im_objinit l st S I fun l st S I =>
  im_aload 0 l st S I fun l st S I =>
  im_ic 238 l st S I fun l st S I =>
  im_newa 100 l st S I fun l st S I =>
  im_putR 11 0 l st S I fun l st S I =>
  im_aload 0 l st S I fun l st S I =>
  im_ic 238 l st S I fun l st S I =>
  im_newa 100 l st S I fun l st S I =>
  im_putR 11 1 l st S I fun l st S I =>
  im_aload 0 l st S I fun l st S I =>
  im_ic 238 l st S I fun l st S I =>
  im_newa 100 l st S I fun l st S I =>
  im_putR 11 2 l st S I fun l st S I =>
  im_aload 0 l st S I fun l st S I =>
  im_ic 476 l st S I fun l st S I =>
  im_newa 100 l st S I fun l st S I =>
  im_putR 11 3 l st S I fun l st S I =>
  im_aload 0 l st S I fun l st S I =>
  im_ic 2 l st S I fun l st S I =>
  im_newa 102 l st S I fun l st S I =>
  im_putR 11 4 l st S I fun l st S I =>
  im_aload 0 l st S I fun l st S I =>
  im_ic 160 l st S I fun l st S I =>
  im_newa 100 l st S I fun l st S I =>
  im_putR 11 5 l st S I fun l st S I =>
  im_aload 0 l st S I fun l st S I =>
  im_ic 4 l st S I fun l st S I =>
  im_newa 100 l st S I fun l st S I =>
  im_putR 11 13 l st S I fun l st S I =>
  im_aload 0 l st S I fun l st S I =>
  im_ic 2401 l st S I fun l st S I =>
  im_newa 100 l st S I fun l st S I =>
  im_putR 11 14 l st S I fun l st S I =>
  im_aload 0 l st S I fun l st S I =>
  im_ic 2401 l st S I fun l st S I =>
  im_newa 102 l st S I fun l st S I =>
  im_putR 11 15 l st S I fun l st S I =>
  im_aload 0 l st S I fun l st S I =>
  im_ic 2401 l st S I fun l st S I =>
  im_newa 102 l st S I fun l st S I =>
  im_putR 11 16 l st S I fun l st S I =>
  im_aload 0 l st S I fun l st S I =>
  im_ic 4 l st S I fun l st S I =>
  im_newa 100 l st S I fun l st S I =>
  im_putR 11 18 l st S I fun l st S I =>
  im_aload 0 l st S I fun l st S I =>
  im_ic 4 l st S I fun l st S I =>
  im_newa 100 l st S I fun l st S I =>
  im_putR 11 20 l st S I fun l st S I =>
  im_aload 0 l st S I fun l st S I =>
  im_ic 4 l st S I fun l st S I =>
  im_newa 100 l st S I fun l st S I =>
  im_putR 11 21 l st S I fun l st S I =>
  im_aload 0 l st S I fun l st S I =>
  im_ic 160 l st S I fun l st S I =>
  im_newa 100 l st S I fun l st S I =>
  im_putR 11 22 l st S I fun l st S I =>
  im_ic 0 l st S I fun l st S I =>
  im_istore 1 l st S I fun l st S I =>
  SW mi_X6_init 122 d Rq l st S I
theorem rv_X6_init_0 {d : Nat} {Rq : SmQ} {l : SmL} {st : List SmV} {S : SmS} {I : SmI} (h : tr_X6_init_0 d Rq l st S I) : SW mi_X6_init 0 d Rq l st S I :=
  (show SmW mi_X6_init 0 d Rq (tr_X6_init_0 d Rq) from
  (xv_aload_n dX6_init_0 rfl
  (xv_objinit dX6_init_1 q1861 q177 q178
  (xv_aload_n dX6_init_4 rfl
  (xv_sipush dX6_init_5 rfl (inRd rfl)
  (xv_newa dX6_init_8 ⟨(Nat.le_of_ble_eq_true rfl), (Nat.le_of_ble_eq_true rfl)⟩ rfl q248
  (xv_putR (k := 0) dX6_init_10 cl_11 tg_11 in_X6 tyX6_ok nmX6 (Nat.le_of_ble_eq_true rfl) rfl ⟨Or.inl q1862, Or.inr ⟨rfl, rfl, rfl⟩⟩
  (xv_aload_n dX6_init_13 rfl
  (xv_sipush dX6_init_14 rfl (inRd rfl)
  (xv_newa dX6_init_17 ⟨(Nat.le_of_ble_eq_true rfl), (Nat.le_of_ble_eq_true rfl)⟩ rfl q248
  (xv_putR (k := 1) dX6_init_19 cl_11 tg_11 in_X6 tyX6_ok nmX6 (Nat.le_of_ble_eq_true rfl) rfl ⟨Or.inl q1863, Or.inr ⟨rfl, rfl, rfl⟩⟩
  (xv_aload_n dX6_init_22 rfl
  (xv_sipush dX6_init_23 rfl (inRd rfl)
  (xv_newa dX6_init_26 ⟨(Nat.le_of_ble_eq_true rfl), (Nat.le_of_ble_eq_true rfl)⟩ rfl q248
  (xv_putR (k := 2) dX6_init_28 cl_11 tg_11 in_X6 tyX6_ok nmX6 (Nat.le_of_ble_eq_true rfl) rfl ⟨Or.inl q1864, Or.inr ⟨rfl, rfl, rfl⟩⟩
  (xv_aload_n dX6_init_31 rfl
  (xv_sipush dX6_init_32 rfl (inRd rfl)
  (xv_newa dX6_init_35 ⟨(Nat.le_of_ble_eq_true rfl), (Nat.le_of_ble_eq_true rfl)⟩ rfl q248
  (xv_putR (k := 3) dX6_init_37 cl_11 tg_11 in_X6 tyX6_ok nmX6 (Nat.le_of_ble_eq_true rfl) rfl ⟨Or.inl q1865, Or.inr ⟨rfl, rfl, rfl⟩⟩
  (xv_aload_n dX6_init_40 rfl
  (xv_iconst dX6_init_41 rfl (inRd rfl)
  (xv_newa dX6_init_42 ⟨(Nat.le_of_ble_eq_true rfl), (Nat.le_of_ble_eq_true rfl)⟩ rfl q249
  (xv_putR (k := 4) dX6_init_44 cl_11 tg_11 in_X6 tyX6_ok nmX6 (Nat.le_of_ble_eq_true rfl) rfl ⟨Or.inl q1866, Or.inr ⟨rfl, rfl, rfl⟩⟩
  (xv_aload_n dX6_init_47 rfl
  (xv_sipush dX6_init_48 rfl (inRd rfl)
  (xv_newa dX6_init_51 ⟨(Nat.le_of_ble_eq_true rfl), (Nat.le_of_ble_eq_true rfl)⟩ rfl q248
  (xv_putR (k := 5) dX6_init_53 cl_11 tg_11 in_X6 tyX6_ok nmX6 (Nat.le_of_ble_eq_true rfl) rfl ⟨Or.inl q1867, Or.inr ⟨rfl, rfl, rfl⟩⟩
  (xv_aload_n dX6_init_56 rfl
  (xv_iconst dX6_init_57 rfl (inRd rfl)
  (xv_newa dX6_init_58 ⟨(Nat.le_of_ble_eq_true rfl), (Nat.le_of_ble_eq_true rfl)⟩ rfl q248
  (xv_putR (k := 13) dX6_init_60 cl_11 tg_11 in_X6 tyX6_ok nmX6 (Nat.le_of_ble_eq_true rfl) rfl ⟨Or.inl q1875, Or.inr ⟨rfl, rfl, rfl⟩⟩
  (xv_aload_n dX6_init_63 rfl
  (xv_sipush dX6_init_64 rfl (inRd rfl)
  (xv_newa dX6_init_67 ⟨(Nat.le_of_ble_eq_true rfl), (Nat.le_of_ble_eq_true rfl)⟩ rfl q248
  (xv_putR (k := 14) dX6_init_69 cl_11 tg_11 in_X6 tyX6_ok nmX6 (Nat.le_of_ble_eq_true rfl) rfl ⟨Or.inl q1876, Or.inr ⟨rfl, rfl, rfl⟩⟩
  (xv_aload_n dX6_init_72 rfl
  (xv_sipush dX6_init_73 rfl (inRd rfl)
  (xv_newa dX6_init_76 ⟨(Nat.le_of_ble_eq_true rfl), (Nat.le_of_ble_eq_true rfl)⟩ rfl q249
  (xv_putR (k := 15) dX6_init_78 cl_11 tg_11 in_X6 tyX6_ok nmX6 (Nat.le_of_ble_eq_true rfl) rfl ⟨Or.inl q1877, Or.inr ⟨rfl, rfl, rfl⟩⟩
  (xv_aload_n dX6_init_81 rfl
  (xv_sipush dX6_init_82 rfl (inRd rfl)
  (xv_newa dX6_init_85 ⟨(Nat.le_of_ble_eq_true rfl), (Nat.le_of_ble_eq_true rfl)⟩ rfl q249
  (xv_putR (k := 16) dX6_init_87 cl_11 tg_11 in_X6 tyX6_ok nmX6 (Nat.le_of_ble_eq_true rfl) rfl ⟨Or.inl q1878, Or.inr ⟨rfl, rfl, rfl⟩⟩
  (xv_aload_n dX6_init_90 rfl
  (xv_iconst dX6_init_91 rfl (inRd rfl)
  (xv_newa dX6_init_92 ⟨(Nat.le_of_ble_eq_true rfl), (Nat.le_of_ble_eq_true rfl)⟩ rfl q248
  (xv_putR (k := 18) dX6_init_94 cl_11 tg_11 in_X6 tyX6_ok nmX6 (Nat.le_of_ble_eq_true rfl) rfl ⟨Or.inl q1880, Or.inr ⟨rfl, rfl, rfl⟩⟩
  (xv_aload_n dX6_init_97 rfl
  (xv_iconst dX6_init_98 rfl (inRd rfl)
  (xv_newa dX6_init_99 ⟨(Nat.le_of_ble_eq_true rfl), (Nat.le_of_ble_eq_true rfl)⟩ rfl q248
  (xv_putR (k := 20) dX6_init_101 cl_11 tg_11 in_X6 tyX6_ok nmX6 (Nat.le_of_ble_eq_true rfl) rfl ⟨Or.inl q1882, Or.inr ⟨rfl, rfl, rfl⟩⟩
  (xv_aload_n dX6_init_104 rfl
  (xv_iconst dX6_init_105 rfl (inRd rfl)
  (xv_newa dX6_init_106 ⟨(Nat.le_of_ble_eq_true rfl), (Nat.le_of_ble_eq_true rfl)⟩ rfl q248
  (xv_putR (k := 21) dX6_init_108 cl_11 tg_11 in_X6 tyX6_ok nmX6 (Nat.le_of_ble_eq_true rfl) rfl ⟨Or.inl q1883, Or.inr ⟨rfl, rfl, rfl⟩⟩
  (xv_aload_n dX6_init_111 rfl
  (xv_sipush dX6_init_112 rfl (inRd rfl)
  (xv_newa dX6_init_115 ⟨(Nat.le_of_ble_eq_true rfl), (Nat.le_of_ble_eq_true rfl)⟩ rfl q248
  (xv_putR (k := 22) dX6_init_117 cl_11 tg_11 in_X6 tyX6_ok nmX6 (Nat.le_of_ble_eq_true rfl) rfl ⟨Or.inl q1884, Or.inr ⟨rfl, rfl, rfl⟩⟩
  (xv_iconst dX6_init_120 rfl (inRd rfl)
  (xv_istore_n dX6_init_121 rfl (Nat.le_of_ble_eq_true rfl)
  (fun _ _ _ _ h => h)))))))))))))))))))))))))))))))))))))))))))))))))))))))))))))) l st S I h
def tr_X6_init_122 (d : Nat) (Rq : SmQ) (l : SmL) (st : List SmV) (S : SmS) (I : SmI) : Prop :=
  im_iload 1 l st S I fun l st S I =>
  im_ic 4 l st S I fun l st S I =>
  im_cge l st S I (fun l st S I =>
  im_return Rq l st S I) (fun l st S I =>
  im_aload 0 l st S I fun l st S I =>
  im_getR 11 20 l st S I fun l st S I =>
  im_iload 1 l st S I fun l st S I =>
  im_ic (-4) l st S I fun l st S I =>
  im_iast l st S I fun l st S I =>
  im_iinc 1 1 l st S I fun l st S I =>
  SW mi_X6_init 122 d Rq l st S I)
theorem rv_X6_init_122 {d : Nat} {Rq : SmQ} {l : SmL} {st : List SmV} {S : SmS} {I : SmI} (h : tr_X6_init_122 d Rq l st S I) : SW mi_X6_init 122 d Rq l st S I :=
  (show SmW mi_X6_init 122 d Rq (tr_X6_init_122 d Rq) from
  (xv_iload_n dX6_init_122 rfl
  (xv_iconst dX6_init_123 rfl (inRd rfl)
  (xv_cge dX6_init_124 rfl
  (xv_return dX6_init_141 rfl)
  (xv_aload_n dX6_init_127 rfl
  (xv_getR (k := 20) dX6_init_128 cl_11 tg_11 in_X6 (Nat.le_of_ble_eq_true rfl) rfl q1882
  (xv_iload_n dX6_init_131 rfl
  (xv_bipush dX6_init_132 rfl (inRd rfl)
  (xv_iast dX6_init_134
  (xv_iinc dX6_init_135 (Nat.le_of_ble_eq_true rfl)
  (xv_goto dX6_init_138 rfl (fun _ _ _ _ h => h)))))))))))) l st S I h
