/-! regions of methods, printed by gen/regions.py -/
set_option maxRecDepth 100000
/- X6_readNumber: cut at [0, 25, 49, 74, 95] -/
abbrev mi_X6_readNumber : SmM := (yX6_readNumber, cX6_readNumber, 5, (some FieldType.int : Option FieldType), [])
theorem ok_X6_readNumber : callOk mi_X6_readNumber 3 := ⟨rfl, rfl, Nat.le_of_ble_eq_true rfl, by decide, by decide, by decide +kernel⟩
theorem ent_X6_readNumber (x : Option Nat) (x0 : Int) (x1 : Int) (x2 : Int) : entL (mL mi_X6_readNumber) [vR x, vI x0, vI x1, vI x2] = [some (vR x), some (vI x0), some (vI x1), some (vI x2), none] := rfl
/- X6_readPlace: cut at [0, 27, 46, 98, 114] -/
abbrev mi_X6_readPlace : SmM := (yX6_readPlace, cX6_readPlace, 2, (none : Option FieldType), [])
theorem ok_X6_readPlace : callOk mi_X6_readPlace 0 := ⟨rfl, rfl, Nat.le_of_ble_eq_true rfl, by decide, by decide, by decide +kernel⟩
theorem ent_X6_readPlace (x : Option Nat) : entL (mL mi_X6_readPlace) [vR x] = [some (vR x), none] := rfl
/- X6_readTrain: cut at [0, 28, 50, 67] -/
abbrev mi_X6_readTrain : SmM := (yX6_readTrain, cX6_readTrain, 2, (none : Option FieldType), [])
theorem ok_X6_readTrain : callOk mi_X6_readTrain 0 := ⟨rfl, rfl, Nat.le_of_ble_eq_true rfl, by decide, by decide, by decide +kernel⟩
theorem ent_X6_readTrain (x : Option Nat) : entL (mL mi_X6_readTrain) [vR x] = [some (vR x), none] := rfl
/- X6_readLine: cut at [0, 4, 21, 33, 45, 49, 65, 77, 107, 108, 133, 137] -/
abbrev mi_X6_readLine : SmM := (yX6_readLine, cX6_readLine, 2, (none : Option FieldType), [])
theorem ok_X6_readLine : callOk mi_X6_readLine 0 := ⟨rfl, rfl, Nat.le_of_ble_eq_true rfl, by decide, by decide, by decide +kernel⟩
theorem ent_X6_readLine (x : Option Nat) : entL (mL mi_X6_readLine) [vR x] = [some (vR x), none] := rfl
/- X6_text: cut at [0, 14, 38, 56, 73, 75, 110, 122, 135, 147, 160, 171] -/
abbrev mi_X6_text : SmM := (yX6_text, cX6_text, 3, (some FieldType.int : Option FieldType), [])
theorem ok_X6_text : callOk mi_X6_text 0 := ⟨rfl, rfl, Nat.le_of_ble_eq_true rfl, by decide, by decide, by decide +kernel⟩
theorem ent_X6_text (x : Option Nat) : entL (mL mi_X6_text) [vR x] = [some (vR x), none, none] := rfl
def tr_X6_readNumber_0 (d : Nat) (Rq : SmQ) (l : SmL) (st : List SmV) (S : SmS) (I : SmI) : Prop :=
  im_aload 0 l st S I fun l st S I =>
  im_getI 11 11 l st S I fun l st S I =>
  im_zne l st S I (fun l st S I =>
  SW mi_X6_readNumber 25 d Rq l st S I) (fun l st S I =>
  im_aload 0 l st S I fun l st S I =>
  im_aload 0 l st S I fun l st S I =>
  im_getI 11 9 l st S I fun l st S I =>
  im_ic 2 l st S I fun l st S I =>
  im_cne l st S I (fun l st S I =>
  im_ic 0 l st S I fun l st S I =>
  im_ic 2 l st S I fun l st S I =>
  im_callV 2 11 mi_X6_requires d (retK mi_X6_readNumber 22 25 d Rq l) st S I) (fun l st S I =>
  im_ic 1 l st S I fun l st S I =>
  im_ic 2 l st S I fun l st S I =>
  im_callV 2 11 mi_X6_requires d (retK mi_X6_readNumber 22 25 d Rq l) st S I))
theorem rv_X6_readNumber_0 {d : Nat} {Rq : SmQ} {l : SmL} {st : List SmV} {S : SmS} {I : SmI} (h : tr_X6_readNumber_0 d Rq l st S I) : SW mi_X6_readNumber 0 d Rq l st S I :=
  (show SmW mi_X6_readNumber 0 d Rq (tr_X6_readNumber_0 d Rq) from
  (xv_aload_n dX6_readNumber_0 rfl
  (xv_getI (k := 11) dX6_readNumber_1 cl_11 tg_11 in_X6 (Nat.le_of_ble_eq_true rfl) rfl q1873
  (xv_zne dX6_readNumber_4 rfl
  (fun _ _ _ _ h => h)
  (xv_aload_n dX6_readNumber_7 rfl
  (xv_aload_n dX6_readNumber_8 rfl
  (xv_getI (k := 9) dX6_readNumber_9 cl_11 tg_11 in_X6 (Nat.le_of_ble_eq_true rfl) rfl q1871
  (xv_iconst dX6_readNumber_12 rfl (inRd rfl)
  (xv_cne dX6_readNumber_13 rfl
  (xv_iconst dX6_readNumber_20 rfl (inRd rfl)
  (xv_iconst dX6_readNumber_21 rfl (inRd rfl)
  (xv_callV dX6_readNumber_22 cl_11 tg_11 ok_X6_requires rfl (lw_V q1963 q1965 qs49 q117 q1966))))
  (xv_iconst dX6_readNumber_16 rfl (inRd rfl)
  (xv_goto dX6_readNumber_17 rfl (xv_iconst dX6_readNumber_21 rfl (inRd rfl)
  (xv_callV dX6_readNumber_22 cl_11 tg_11 ok_X6_requires rfl (lw_V q1963 q1965 qs49 q117 q1966)))))))))))))) l st S I h
def tr_X6_readNumber_25 (d : Nat) (Rq : SmQ) (l : SmL) (st : List SmV) (S : SmS) (I : SmI) : Prop :=
  im_aload 0 l st S I fun l st S I =>
  im_getI 11 11 l st S I fun l st S I =>
  im_zne l st S I (fun l st S I =>
  SW mi_X6_readNumber 49 d Rq l st S I) (fun l st S I =>
  im_aload 0 l st S I fun l st S I =>
  im_aload 0 l st S I fun l st S I =>
  im_getI 11 10 l st S I fun l st S I =>
  im_i2l l st S I fun l st S I =>
  im_iload 1 l st S I fun l st S I =>
  im_i2l l st S I fun l st S I =>
  im_iload 2 l st S I fun l st S I =>
  im_i2l l st S I fun l st S I =>
  im_p_X6_in d l st S I fun l st S I =>
  im_ic 3 l st S I fun l st S I =>
  im_callV 2 11 mi_X6_requires d (retK mi_X6_readNumber 46 49 d Rq l) st S I)
theorem rv_X6_readNumber_25 {d : Nat} {Rq : SmQ} {l : SmL} {st : List SmV} {S : SmS} {I : SmI} (h : tr_X6_readNumber_25 d Rq l st S I) : SW mi_X6_readNumber 25 d Rq l st S I :=
  (show SmW mi_X6_readNumber 25 d Rq (tr_X6_readNumber_25 d Rq) from
  (xv_aload_n dX6_readNumber_25 rfl
  (xv_getI (k := 11) dX6_readNumber_26 cl_11 tg_11 in_X6 (Nat.le_of_ble_eq_true rfl) rfl q1873
  (xv_zne dX6_readNumber_29 rfl
  (fun _ _ _ _ h => h)
  (xv_aload_n dX6_readNumber_32 rfl
  (xv_aload_n dX6_readNumber_33 rfl
  (xv_getI (k := 10) dX6_readNumber_34 cl_11 tg_11 in_X6 (Nat.le_of_ble_eq_true rfl) rfl q1872
  (xv_i2l dX6_readNumber_37
  (xv_iload_n dX6_readNumber_38 rfl
  (xv_i2l dX6_readNumber_39
  (xv_iload_n dX6_readNumber_40 rfl
  (xv_i2l dX6_readNumber_41
  (xv_p_X6_in dX6_readNumber_42 (lw_S q1940 q1941 q117 q1942)
  (xv_iconst dX6_readNumber_45 rfl (inRd rfl)
  (xv_callV dX6_readNumber_46 cl_11 tg_11 ok_X6_requires rfl (lw_V q1963 q1965 qs49 q117 q1966)))))))))))))))) l st S I h
def tr_X6_readNumber_49 (d : Nat) (Rq : SmQ) (l : SmL) (st : List SmV) (S : SmS) (I : SmI) : Prop :=
  im_aload 0 l st S I fun l st S I =>
  im_getI 11 11 l st S I fun l st S I =>
  im_zne l st S I (fun l st S I =>
  SW mi_X6_readNumber 74 d Rq l st S I) (fun l st S I =>
  im_aload 0 l st S I fun l st S I =>
  im_aload 0 l st S I fun l st S I =>
  im_getI 11 10 l st S I fun l st S I =>
  im_iload 3 l st S I fun l st S I =>
  im_ceq l st S I (fun l st S I =>
  im_ic 0 l st S I fun l st S I =>
  im_ic 4 l st S I fun l st S I =>
  im_callV 2 11 mi_X6_requires d (retK mi_X6_readNumber 71 74 d Rq l) st S I) (fun l st S I =>
  im_ic 1 l st S I fun l st S I =>
  im_ic 4 l st S I fun l st S I =>
  im_callV 2 11 mi_X6_requires d (retK mi_X6_readNumber 71 74 d Rq l) st S I))
theorem rv_X6_readNumber_49 {d : Nat} {Rq : SmQ} {l : SmL} {st : List SmV} {S : SmS} {I : SmI} (h : tr_X6_readNumber_49 d Rq l st S I) : SW mi_X6_readNumber 49 d Rq l st S I :=
  (show SmW mi_X6_readNumber 49 d Rq (tr_X6_readNumber_49 d Rq) from
  (xv_aload_n dX6_readNumber_49 rfl
  (xv_getI (k := 11) dX6_readNumber_50 cl_11 tg_11 in_X6 (Nat.le_of_ble_eq_true rfl) rfl q1873
  (xv_zne dX6_readNumber_53 rfl
  (fun _ _ _ _ h => h)
  (xv_aload_n dX6_readNumber_56 rfl
  (xv_aload_n dX6_readNumber_57 rfl
  (xv_getI (k := 10) dX6_readNumber_58 cl_11 tg_11 in_X6 (Nat.le_of_ble_eq_true rfl) rfl q1872
  (xv_iload_n dX6_readNumber_61 rfl
  (xv_ceq dX6_readNumber_62 rfl
  (xv_iconst dX6_readNumber_69 rfl (inRd rfl)
  (xv_iconst dX6_readNumber_70 rfl (inRd rfl)
  (xv_callV dX6_readNumber_71 cl_11 tg_11 ok_X6_requires rfl (lw_V q1963 q1965 qs49 q117 q1966))))
  (xv_iconst dX6_readNumber_65 rfl (inRd rfl)
  (xv_goto dX6_readNumber_66 rfl (xv_iconst dX6_readNumber_70 rfl (inRd rfl)
  (xv_callV dX6_readNumber_71 cl_11 tg_11 ok_X6_requires rfl (lw_V q1963 q1965 qs49 q117 q1966)))))))))))))) l st S I h
def tr_X6_readNumber_74 (d : Nat) (Rq : SmQ) (l : SmL) (st : List SmV) (S : SmS) (I : SmI) : Prop :=
  im_aload 0 l st S I fun l st S I =>
  im_getI 11 11 l st S I fun l st S I =>
  im_zne l st S I (fun l st S I =>
  im_ic 0 l st S I fun l st S I =>
  im_istore 4 l st S I fun l st S I =>
  im_aload 0 l st S I fun l st S I =>
  im_callV 0 11 mi_X6_reads d (retK mi_X6_readNumber 92 95 d Rq l) st S I) (fun l st S I =>
  im_aload 0 l st S I fun l st S I =>
  im_getI 11 10 l st S I fun l st S I =>
  im_istore 4 l st S I fun l st S I =>
  im_aload 0 l st S I fun l st S I =>
  im_callV 0 11 mi_X6_reads d (retK mi_X6_readNumber 92 95 d Rq l) st S I)
theorem rv_X6_readNumber_74 {d : Nat} {Rq : SmQ} {l : SmL} {st : List SmV} {S : SmS} {I : SmI} (h : tr_X6_readNumber_74 d Rq l st S I) : SW mi_X6_readNumber 74 d Rq l st S I :=
  (show SmW mi_X6_readNumber 74 d Rq (tr_X6_readNumber_74 d Rq) from
  (xv_aload_n dX6_readNumber_74 rfl
  (xv_getI (k := 11) dX6_readNumber_75 cl_11 tg_11 in_X6 (Nat.le_of_ble_eq_true rfl) rfl q1873
  (xv_zne dX6_readNumber_78 rfl
  (xv_iconst dX6_readNumber_88 rfl (inRd rfl)
  (xv_istore dX6_readNumber_89 (Nat.le_of_ble_eq_true rfl)
  (xv_aload_n dX6_readNumber_91 rfl
  (xv_callV dX6_readNumber_92 cl_11 tg_11 ok_X6_reads rfl (lw_V q1951 q1953 qs47 q117 q1954)))))
  (xv_aload_n dX6_readNumber_81 rfl
  (xv_getI (k := 10) dX6_readNumber_82 cl_11 tg_11 in_X6 (Nat.le_of_ble_eq_true rfl) rfl q1872
  (xv_goto dX6_readNumber_85 rfl (xv_istore dX6_readNumber_89 (Nat.le_of_ble_eq_true rfl)
  (xv_aload_n dX6_readNumber_91 rfl
  (xv_callV dX6_readNumber_92 cl_11 tg_11 ok_X6_reads rfl (lw_V q1951 q1953 qs47 q117 q1954))))))))))) l st S I h
def tr_X6_readNumber_95 (d : Nat) (Rq : SmQ) (l : SmL) (st : List SmV) (S : SmS) (I : SmI) : Prop :=
  im_iload 4 l st S I fun l st S I =>
  im_ireturn Rq l st S I
theorem rv_X6_readNumber_95 {d : Nat} {Rq : SmQ} {l : SmL} {st : List SmV} {S : SmS} {I : SmI} (h : tr_X6_readNumber_95 d Rq l st S I) : SW mi_X6_readNumber 95 d Rq l st S I :=
  (show SmW mi_X6_readNumber 95 d Rq (tr_X6_readNumber_95 d Rq) from
  (xv_iload dX6_readNumber_95
  (xv_ireturn dX6_readNumber_97 rfl))) l st S I h
def tr_X6_readPlace_0 (d : Nat) (Rq : SmQ) (l : SmL) (st : List SmV) (S : SmS) (I : SmI) : Prop :=
  im_ic 4 l st S I fun l st S I =>
  im_ic 5 l st S I fun l st S I =>
  im_aload 0 l st S I fun l st S I =>
  im_getR 11 1 l st S I fun l st S I =>
  im_ic 0 l st S I fun l st S I =>
  im_ald 100 l st S I fun l st S I =>
  im_imul l st S I fun l st S I =>
  im_iadd l st S I fun l st S I =>
  im_istore 1 l st S I fun l st S I =>
  im_aload 0 l st S I fun l st S I =>
  im_getR 11 1 l st S I fun l st S I =>
  im_iload 1 l st S I fun l st S I =>
  im_ic 1 l st S I fun l st S I =>
  im_iadd l st S I fun l st S I =>
  im_aload 0 l st S I fun l st S I =>
  im_ic 1 l st S I fun l st S I =>
  im_ic 20 l st S I fun l st S I =>
  im_ic (-4) l st S I fun l st S I =>
  im_callV 3 11 mi_X6_readNumber d (retK mi_X6_readPlace 24 27 d Rq l) st S I
theorem rv_X6_readPlace_0 {d : Nat} {Rq : SmQ} {l : SmL} {st : List SmV} {S : SmS} {I : SmI} (h : tr_X6_readPlace_0 d Rq l st S I) : SW mi_X6_readPlace 0 d Rq l st S I :=
  (show SmW mi_X6_readPlace 0 d Rq (tr_X6_readPlace_0 d Rq) from
  (xv_iconst dX6_readPlace_0 rfl (inRd rfl)
  (xv_iconst dX6_readPlace_1 rfl (inRd rfl)
  (xv_aload_n dX6_readPlace_2 rfl
  (xv_getR (k := 1) dX6_readPlace_3 cl_11 tg_11 in_X6 (Nat.le_of_ble_eq_true rfl) rfl q1863
  (xv_iconst dX6_readPlace_6 rfl (inRd rfl)
  (xv_iald dX6_readPlace_7
  (xv_imul dX6_readPlace_8
  (xv_iadd dX6_readPlace_9
  (xv_istore_n dX6_readPlace_10 rfl (Nat.le_of_ble_eq_true rfl)
  (xv_aload_n dX6_readPlace_11 rfl
  (xv_getR (k := 1) dX6_readPlace_12 cl_11 tg_11 in_X6 (Nat.le_of_ble_eq_true rfl) rfl q1863
  (xv_iload_n dX6_readPlace_15 rfl
  (xv_iconst dX6_readPlace_16 rfl (inRd rfl)
  (xv_iadd dX6_readPlace_17
  (xv_aload_n dX6_readPlace_18 rfl
  (xv_iconst dX6_readPlace_19 rfl (inRd rfl)
  (xv_bipush dX6_readPlace_20 rfl (inRd rfl)
  (xv_bipush dX6_readPlace_22 rfl (inRd rfl)
  (xv_callV dX6_readPlace_24 cl_11 tg_11 ok_X6_readNumber rfl (lw_V q1987 q1989 qs55 q117 q1990))))))))))))))))))))) l st S I h
def tr_X6_readPlace_27 (d : Nat) (Rq : SmQ) (l : SmL) (st : List SmV) (S : SmS) (I : SmI) : Prop :=
  im_iast l st S I fun l st S I =>
  im_aload 0 l st S I fun l st S I =>
  im_getR 11 1 l st S I fun l st S I =>
  im_iload 1 l st S I fun l st S I =>
  im_ic 0 l st S I fun l st S I =>
  im_iadd l st S I fun l st S I =>
  im_ic 1 l st S I fun l st S I =>
  im_iast l st S I fun l st S I =>
  im_aload 0 l st S I fun l st S I =>
  im_getR 11 1 l st S I fun l st S I =>
  im_iload 1 l st S I fun l st S I =>
  im_ic 4 l st S I fun l st S I =>
  im_iadd l st S I fun l st S I =>
  im_ic 1 l st S I fun l st S I =>
  im_iast l st S I fun l st S I =>
  SW mi_X6_readPlace 46 d Rq l st S I
theorem rv_X6_readPlace_27 {d : Nat} {Rq : SmQ} {l : SmL} {st : List SmV} {S : SmS} {I : SmI} (h : tr_X6_readPlace_27 d Rq l st S I) : SW mi_X6_readPlace 27 d Rq l st S I :=
  (show SmW mi_X6_readPlace 27 d Rq (tr_X6_readPlace_27 d Rq) from
  (xv_iast dX6_readPlace_27
  (xv_aload_n dX6_readPlace_28 rfl
  (xv_getR (k := 1) dX6_readPlace_29 cl_11 tg_11 in_X6 (Nat.le_of_ble_eq_true rfl) rfl q1863
  (xv_iload_n dX6_readPlace_32 rfl
  (xv_iconst dX6_readPlace_33 rfl (inRd rfl)
  (xv_iadd dX6_readPlace_34
  (xv_iconst dX6_readPlace_35 rfl (inRd rfl)
  (xv_iast dX6_readPlace_36
  (xv_aload_n dX6_readPlace_37 rfl
  (xv_getR (k := 1) dX6_readPlace_38 cl_11 tg_11 in_X6 (Nat.le_of_ble_eq_true rfl) rfl q1863
  (xv_iload_n dX6_readPlace_41 rfl
  (xv_iconst dX6_readPlace_42 rfl (inRd rfl)
  (xv_iadd dX6_readPlace_43
  (xv_iconst dX6_readPlace_44 rfl (inRd rfl)
  (xv_iast dX6_readPlace_45
  (fun _ _ _ _ h => h))))))))))))))))) l st S I h
def tr_X6_readPlace_46 (d : Nat) (Rq : SmQ) (l : SmL) (st : List SmV) (S : SmS) (I : SmI) : Prop :=
  im_aload 0 l st S I fun l st S I =>
  im_getI 11 11 l st S I fun l st S I =>
  im_zne l st S I (fun l st S I =>
  SW mi_X6_readPlace 114 d Rq l st S I) (fun l st S I =>
  im_aload 0 l st S I fun l st S I =>
  im_getI 11 9 l st S I fun l st S I =>
  im_ic 2 l st S I fun l st S I =>
  im_cne l st S I (fun l st S I =>
  SW mi_X6_readPlace 114 d Rq l st S I) (fun l st S I =>
  im_aload 0 l st S I fun l st S I =>
  im_getR 11 1 l st S I fun l st S I =>
  im_iload 1 l st S I fun l st S I =>
  im_ic 0 l st S I fun l st S I =>
  im_iadd l st S I fun l st S I =>
  im_ald 100 l st S I fun l st S I =>
  im_ic 3 l st S I fun l st S I =>
  im_cge l st S I (fun l st S I =>
  SW mi_X6_readPlace 114 d Rq l st S I) (fun l st S I =>
  im_aload 0 l st S I fun l st S I =>
  im_getR 11 1 l st S I fun l st S I =>
  im_iload 1 l st S I fun l st S I =>
  im_ic 1 l st S I fun l st S I =>
  im_iadd l st S I fun l st S I =>
  im_aload 0 l st S I fun l st S I =>
  im_getR 11 1 l st S I fun l st S I =>
  im_iload 1 l st S I fun l st S I =>
  im_ic 0 l st S I fun l st S I =>
  im_iadd l st S I fun l st S I =>
  im_ald 100 l st S I fun l st S I =>
  im_iadd l st S I fun l st S I =>
  im_aload 0 l st S I fun l st S I =>
  im_ic 1 l st S I fun l st S I =>
  im_ic 20 l st S I fun l st S I =>
  im_ic (-4) l st S I fun l st S I =>
  im_callV 3 11 mi_X6_readNumber d (retK mi_X6_readPlace 95 98 d Rq l) st S I)))
theorem rv_X6_readPlace_46 {d : Nat} {Rq : SmQ} {l : SmL} {st : List SmV} {S : SmS} {I : SmI} (h : tr_X6_readPlace_46 d Rq l st S I) : SW mi_X6_readPlace 46 d Rq l st S I :=
  (show SmW mi_X6_readPlace 46 d Rq (tr_X6_readPlace_46 d Rq) from
  (xv_aload_n dX6_readPlace_46 rfl
  (xv_getI (k := 11) dX6_readPlace_47 cl_11 tg_11 in_X6 (Nat.le_of_ble_eq_true rfl) rfl q1873
  (xv_zne dX6_readPlace_50 rfl
  (fun _ _ _ _ h => h)
  (xv_aload_n dX6_readPlace_53 rfl
  (xv_getI (k := 9) dX6_readPlace_54 cl_11 tg_11 in_X6 (Nat.le_of_ble_eq_true rfl) rfl q1871
  (xv_iconst dX6_readPlace_57 rfl (inRd rfl)
  (xv_cne dX6_readPlace_58 rfl
  (fun _ _ _ _ h => h)
  (xv_aload_n dX6_readPlace_61 rfl
  (xv_getR (k := 1) dX6_readPlace_62 cl_11 tg_11 in_X6 (Nat.le_of_ble_eq_true rfl) rfl q1863
  (xv_iload_n dX6_readPlace_65 rfl
  (xv_iconst dX6_readPlace_66 rfl (inRd rfl)
  (xv_iadd dX6_readPlace_67
  (xv_iald dX6_readPlace_68
  (xv_iconst dX6_readPlace_69 rfl (inRd rfl)
  (xv_cge dX6_readPlace_70 rfl
  (fun _ _ _ _ h => h)
  (xv_aload_n dX6_readPlace_73 rfl
  (xv_getR (k := 1) dX6_readPlace_74 cl_11 tg_11 in_X6 (Nat.le_of_ble_eq_true rfl) rfl q1863
  (xv_iload_n dX6_readPlace_77 rfl
  (xv_iconst dX6_readPlace_78 rfl (inRd rfl)
  (xv_iadd dX6_readPlace_79
  (xv_aload_n dX6_readPlace_80 rfl
  (xv_getR (k := 1) dX6_readPlace_81 cl_11 tg_11 in_X6 (Nat.le_of_ble_eq_true rfl) rfl q1863
  (xv_iload_n dX6_readPlace_84 rfl
  (xv_iconst dX6_readPlace_85 rfl (inRd rfl)
  (xv_iadd dX6_readPlace_86
  (xv_iald dX6_readPlace_87
  (xv_iadd dX6_readPlace_88
  (xv_aload_n dX6_readPlace_89 rfl
  (xv_iconst dX6_readPlace_90 rfl (inRd rfl)
  (xv_bipush dX6_readPlace_91 rfl (inRd rfl)
  (xv_bipush dX6_readPlace_93 rfl (inRd rfl)
  (xv_callV dX6_readPlace_95 cl_11 tg_11 ok_X6_readNumber rfl (lw_V q1987 q1989 qs55 q117 q1990)))))))))))))))))))))))))))))))))) l st S I h
def tr_X6_readPlace_98 (d : Nat) (Rq : SmQ) (l : SmL) (st : List SmV) (S : SmS) (I : SmI) : Prop :=
  im_iast l st S I fun l st S I =>
  im_aload 0 l st S I fun l st S I =>
  im_getR 11 1 l st S I fun l st S I =>
  im_iload 1 l st S I fun l st S I =>
  im_ic 0 l st S I fun l st S I =>
  im_iadd l st S I fun l st S I =>
  im_dup2 l st S I fun l st S I =>
  im_ald 100 l st S I fun l st S I =>
  im_ic 1 l st S I fun l st S I =>
  im_iadd l st S I fun l st S I =>
  im_iast l st S I fun l st S I =>
  SW mi_X6_readPlace 46 d Rq l st S I
theorem rv_X6_readPlace_98 {d : Nat} {Rq : SmQ} {l : SmL} {st : List SmV} {S : SmS} {I : SmI} (h : tr_X6_readPlace_98 d Rq l st S I) : SW mi_X6_readPlace 98 d Rq l st S I :=
  (show SmW mi_X6_readPlace 98 d Rq (tr_X6_readPlace_98 d Rq) from
  (xv_iast dX6_readPlace_98
  (xv_aload_n dX6_readPlace_99 rfl
  (xv_getR (k := 1) dX6_readPlace_100 cl_11 tg_11 in_X6 (Nat.le_of_ble_eq_true rfl) rfl q1863
  (xv_iload_n dX6_readPlace_103 rfl
  (xv_iconst dX6_readPlace_104 rfl (inRd rfl)
  (xv_iadd dX6_readPlace_105
  (xv_dup2 dX6_readPlace_106
  (xv_iald dX6_readPlace_107
  (xv_iconst dX6_readPlace_108 rfl (inRd rfl)
  (xv_iadd dX6_readPlace_109
  (xv_iast dX6_readPlace_110
  (xv_goto dX6_readPlace_111 rfl (fun _ _ _ _ h => h)))))))))))))) l st S I h
def tr_X6_readPlace_114 (d : Nat) (Rq : SmQ) (l : SmL) (st : List SmV) (S : SmS) (I : SmI) : Prop :=
  im_aload 0 l st S I fun l st S I =>
  im_getR 11 1 l st S I fun l st S I =>
  im_ic 0 l st S I fun l st S I =>
  im_dup2 l st S I fun l st S I =>
  im_ald 100 l st S I fun l st S I =>
  im_ic 1 l st S I fun l st S I =>
  im_iadd l st S I fun l st S I =>
  im_iast l st S I fun l st S I =>
  im_return Rq l st S I
theorem rv_X6_readPlace_114 {d : Nat} {Rq : SmQ} {l : SmL} {st : List SmV} {S : SmS} {I : SmI} (h : tr_X6_readPlace_114 d Rq l st S I) : SW mi_X6_readPlace 114 d Rq l st S I :=
  (show SmW mi_X6_readPlace 114 d Rq (tr_X6_readPlace_114 d Rq) from
  (xv_aload_n dX6_readPlace_114 rfl
  (xv_getR (k := 1) dX6_readPlace_115 cl_11 tg_11 in_X6 (Nat.le_of_ble_eq_true rfl) rfl q1863
  (xv_iconst dX6_readPlace_118 rfl (inRd rfl)
  (xv_dup2 dX6_readPlace_119
  (xv_iald dX6_readPlace_120
  (xv_iconst dX6_readPlace_121 rfl (inRd rfl)
  (xv_iadd dX6_readPlace_122
  (xv_iast dX6_readPlace_123
  (xv_return dX6_readPlace_124 rfl)))))))))) l st S I h
def tr_X6_readTrain_0 (d : Nat) (Rq : SmQ) (l : SmL) (st : List SmV) (S : SmS) (I : SmI) : Prop :=
  im_ic 34 l st S I fun l st S I =>
  im_ic 6 l st S I fun l st S I =>
  im_aload 0 l st S I fun l st S I =>
  im_getR 11 1 l st S I fun l st S I =>
  im_ic 1 l st S I fun l st S I =>
  im_ald 100 l st S I fun l st S I =>
  im_imul l st S I fun l st S I =>
  im_iadd l st S I fun l st S I =>
  im_istore 1 l st S I fun l st S I =>
  im_aload 0 l st S I fun l st S I =>
  im_getR 11 1 l st S I fun l st S I =>
  im_iload 1 l st S I fun l st S I =>
  im_ic 0 l st S I fun l st S I =>
  im_iadd l st S I fun l st S I =>
  im_aload 0 l st S I fun l st S I =>
  im_ic 0 l st S I fun l st S I =>
  im_ic 5 l st S I fun l st S I =>
  im_ic (-4) l st S I fun l st S I =>
  im_callV 3 11 mi_X6_readNumber d (retK mi_X6_readTrain 25 28 d Rq l) st S I
theorem rv_X6_readTrain_0 {d : Nat} {Rq : SmQ} {l : SmL} {st : List SmV} {S : SmS} {I : SmI} (h : tr_X6_readTrain_0 d Rq l st S I) : SW mi_X6_readTrain 0 d Rq l st S I :=
  (show SmW mi_X6_readTrain 0 d Rq (tr_X6_readTrain_0 d Rq) from
  (xv_bipush dX6_readTrain_0 rfl (inRd rfl)
  (xv_bipush dX6_readTrain_2 rfl (inRd rfl)
  (xv_aload_n dX6_readTrain_4 rfl
  (xv_getR (k := 1) dX6_readTrain_5 cl_11 tg_11 in_X6 (Nat.le_of_ble_eq_true rfl) rfl q1863
  (xv_iconst dX6_readTrain_8 rfl (inRd rfl)
  (xv_iald dX6_readTrain_9
  (xv_imul dX6_readTrain_10
  (xv_iadd dX6_readTrain_11
  (xv_istore_n dX6_readTrain_12 rfl (Nat.le_of_ble_eq_true rfl)
  (xv_aload_n dX6_readTrain_13 rfl
  (xv_getR (k := 1) dX6_readTrain_14 cl_11 tg_11 in_X6 (Nat.le_of_ble_eq_true rfl) rfl q1863
  (xv_iload_n dX6_readTrain_17 rfl
  (xv_iconst dX6_readTrain_18 rfl (inRd rfl)
  (xv_iadd dX6_readTrain_19
  (xv_aload_n dX6_readTrain_20 rfl
  (xv_iconst dX6_readTrain_21 rfl (inRd rfl)
  (xv_iconst dX6_readTrain_22 rfl (inRd rfl)
  (xv_bipush dX6_readTrain_23 rfl (inRd rfl)
  (xv_callV dX6_readTrain_25 cl_11 tg_11 ok_X6_readNumber rfl (lw_V q1987 q1989 qs55 q117 q1990))))))))))))))))))))) l st S I h
def tr_X6_readTrain_28 (d : Nat) (Rq : SmQ) (l : SmL) (st : List SmV) (S : SmS) (I : SmI) : Prop :=
  im_iast l st S I fun l st S I =>
  im_aload 0 l st S I fun l st S I =>
  im_getR 11 1 l st S I fun l st S I =>
  im_iload 1 l st S I fun l st S I =>
  im_ic 1 l st S I fun l st S I =>
  im_iadd l st S I fun l st S I =>
  im_aload 0 l st S I fun l st S I =>
  im_ic 0 l st S I fun l st S I =>
  im_ic 5 l st S I fun l st S I =>
  im_aload 0 l st S I fun l st S I =>
  im_getR 11 1 l st S I fun l st S I =>
  im_iload 1 l st S I fun l st S I =>
  im_ic 0 l st S I fun l st S I =>
  im_iadd l st S I fun l st S I =>
  im_ald 100 l st S I fun l st S I =>
  im_callV 3 11 mi_X6_readNumber d (retK mi_X6_readTrain 47 50 d Rq l) st S I
theorem rv_X6_readTrain_28 {d : Nat} {Rq : SmQ} {l : SmL} {st : List SmV} {S : SmS} {I : SmI} (h : tr_X6_readTrain_28 d Rq l st S I) : SW mi_X6_readTrain 28 d Rq l st S I :=
  (show SmW mi_X6_readTrain 28 d Rq (tr_X6_readTrain_28 d Rq) from
  (xv_iast dX6_readTrain_28
  (xv_aload_n dX6_readTrain_29 rfl
  (xv_getR (k := 1) dX6_readTrain_30 cl_11 tg_11 in_X6 (Nat.le_of_ble_eq_true rfl) rfl q1863
  (xv_iload_n dX6_readTrain_33 rfl
  (xv_iconst dX6_readTrain_34 rfl (inRd rfl)
  (xv_iadd dX6_readTrain_35
  (xv_aload_n dX6_readTrain_36 rfl
  (xv_iconst dX6_readTrain_37 rfl (inRd rfl)
  (xv_iconst dX6_readTrain_38 rfl (inRd rfl)
  (xv_aload_n dX6_readTrain_39 rfl
  (xv_getR (k := 1) dX6_readTrain_40 cl_11 tg_11 in_X6 (Nat.le_of_ble_eq_true rfl) rfl q1863
  (xv_iload_n dX6_readTrain_43 rfl
  (xv_iconst dX6_readTrain_44 rfl (inRd rfl)
  (xv_iadd dX6_readTrain_45
  (xv_iald dX6_readTrain_46
  (xv_callV dX6_readTrain_47 cl_11 tg_11 ok_X6_readNumber rfl (lw_V q1987 q1989 qs55 q117 q1990)))))))))))))))))) l st S I h
def tr_X6_readTrain_50 (d : Nat) (Rq : SmQ) (l : SmL) (st : List SmV) (S : SmS) (I : SmI) : Prop :=
  im_iast l st S I fun l st S I =>
  im_aload 0 l st S I fun l st S I =>
  im_getR 11 1 l st S I fun l st S I =>
  im_iload 1 l st S I fun l st S I =>
  im_ic 2 l st S I fun l st S I =>
  im_iadd l st S I fun l st S I =>
  im_aload 0 l st S I fun l st S I =>
  im_ic 1 l st S I fun l st S I =>
  im_ic 20 l st S I fun l st S I =>
  im_ic (-4) l st S I fun l st S I =>
  im_callV 3 11 mi_X6_readNumber d (retK mi_X6_readTrain 64 67 d Rq l) st S I
theorem rv_X6_readTrain_50 {d : Nat} {Rq : SmQ} {l : SmL} {st : List SmV} {S : SmS} {I : SmI} (h : tr_X6_readTrain_50 d Rq l st S I) : SW mi_X6_readTrain 50 d Rq l st S I :=
  (show SmW mi_X6_readTrain 50 d Rq (tr_X6_readTrain_50 d Rq) from
  (xv_iast dX6_readTrain_50
  (xv_aload_n dX6_readTrain_51 rfl
  (xv_getR (k := 1) dX6_readTrain_52 cl_11 tg_11 in_X6 (Nat.le_of_ble_eq_true rfl) rfl q1863
  (xv_iload_n dX6_readTrain_55 rfl
  (xv_iconst dX6_readTrain_56 rfl (inRd rfl)
  (xv_iadd dX6_readTrain_57
  (xv_aload_n dX6_readTrain_58 rfl
  (xv_iconst dX6_readTrain_59 rfl (inRd rfl)
  (xv_bipush dX6_readTrain_60 rfl (inRd rfl)
  (xv_bipush dX6_readTrain_62 rfl (inRd rfl)
  (xv_callV dX6_readTrain_64 cl_11 tg_11 ok_X6_readNumber rfl (lw_V q1987 q1989 qs55 q117 q1990))))))))))))) l st S I h
def tr_X6_readTrain_67 (d : Nat) (Rq : SmQ) (l : SmL) (st : List SmV) (S : SmS) (I : SmI) : Prop :=
  im_iast l st S I fun l st S I =>
  im_aload 0 l st S I fun l st S I =>
  im_getR 11 1 l st S I fun l st S I =>
  im_iload 1 l st S I fun l st S I =>
  im_ic 3 l st S I fun l st S I =>
  im_iadd l st S I fun l st S I =>
  im_aload 0 l st S I fun l st S I =>
  im_getR 11 1 l st S I fun l st S I =>
  im_iload 1 l st S I fun l st S I =>
  im_ic 0 l st S I fun l st S I =>
  im_iadd l st S I fun l st S I =>
  im_ald 100 l st S I fun l st S I =>
  im_iast l st S I fun l st S I =>
  im_aload 0 l st S I fun l st S I =>
  im_getR 11 1 l st S I fun l st S I =>
  im_iload 1 l st S I fun l st S I =>
  im_ic 4 l st S I fun l st S I =>
  im_iadd l st S I fun l st S I =>
  im_ic 0 l st S I fun l st S I =>
  im_iast l st S I fun l st S I =>
  im_aload 0 l st S I fun l st S I =>
  im_getR 11 1 l st S I fun l st S I =>
  im_iload 1 l st S I fun l st S I =>
  im_ic 5 l st S I fun l st S I =>
  im_iadd l st S I fun l st S I =>
  im_ic (-4) l st S I fun l st S I =>
  im_iast l st S I fun l st S I =>
  im_aload 0 l st S I fun l st S I =>
  im_getR 11 1 l st S I fun l st S I =>
  im_ic 1 l st S I fun l st S I =>
  im_dup2 l st S I fun l st S I =>
  im_ald 100 l st S I fun l st S I =>
  im_ic 1 l st S I fun l st S I =>
  im_iadd l st S I fun l st S I =>
  im_iast l st S I fun l st S I =>
  im_return Rq l st S I
theorem rv_X6_readTrain_67 {d : Nat} {Rq : SmQ} {l : SmL} {st : List SmV} {S : SmS} {I : SmI} (h : tr_X6_readTrain_67 d Rq l st S I) : SW mi_X6_readTrain 67 d Rq l st S I :=
  (show SmW mi_X6_readTrain 67 d Rq (tr_X6_readTrain_67 d Rq) from
  (xv_iast dX6_readTrain_67
  (xv_aload_n dX6_readTrain_68 rfl
  (xv_getR (k := 1) dX6_readTrain_69 cl_11 tg_11 in_X6 (Nat.le_of_ble_eq_true rfl) rfl q1863
  (xv_iload_n dX6_readTrain_72 rfl
  (xv_iconst dX6_readTrain_73 rfl (inRd rfl)
  (xv_iadd dX6_readTrain_74
  (xv_aload_n dX6_readTrain_75 rfl
  (xv_getR (k := 1) dX6_readTrain_76 cl_11 tg_11 in_X6 (Nat.le_of_ble_eq_true rfl) rfl q1863
  (xv_iload_n dX6_readTrain_79 rfl
  (xv_iconst dX6_readTrain_80 rfl (inRd rfl)
  (xv_iadd dX6_readTrain_81
  (xv_iald dX6_readTrain_82
  (xv_iast dX6_readTrain_83
  (xv_aload_n dX6_readTrain_84 rfl
  (xv_getR (k := 1) dX6_readTrain_85 cl_11 tg_11 in_X6 (Nat.le_of_ble_eq_true rfl) rfl q1863
  (xv_iload_n dX6_readTrain_88 rfl
  (xv_iconst dX6_readTrain_89 rfl (inRd rfl)
  (xv_iadd dX6_readTrain_90
  (xv_iconst dX6_readTrain_91 rfl (inRd rfl)
  (xv_iast dX6_readTrain_92
  (xv_aload_n dX6_readTrain_93 rfl
  (xv_getR (k := 1) dX6_readTrain_94 cl_11 tg_11 in_X6 (Nat.le_of_ble_eq_true rfl) rfl q1863
  (xv_iload_n dX6_readTrain_97 rfl
  (xv_iconst dX6_readTrain_98 rfl (inRd rfl)
  (xv_iadd dX6_readTrain_99
  (xv_bipush dX6_readTrain_100 rfl (inRd rfl)
  (xv_iast dX6_readTrain_102
  (xv_aload_n dX6_readTrain_103 rfl
  (xv_getR (k := 1) dX6_readTrain_104 cl_11 tg_11 in_X6 (Nat.le_of_ble_eq_true rfl) rfl q1863
  (xv_iconst dX6_readTrain_107 rfl (inRd rfl)
  (xv_dup2 dX6_readTrain_108
  (xv_iald dX6_readTrain_109
  (xv_iconst dX6_readTrain_110 rfl (inRd rfl)
  (xv_iadd dX6_readTrain_111
  (xv_iast dX6_readTrain_112
  (xv_return dX6_readTrain_113 rfl))))))))))))))))))))))))))))))))))))) l st S I h
def tr_X6_readLine_0 (d : Nat) (Rq : SmQ) (l : SmL) (st : List SmV) (S : SmS) (I : SmI) : Prop :=
  im_aload 0 l st S I fun l st S I =>
  im_callV 0 11 mi_X6_lineNow d (retK mi_X6_readLine 1 4 d Rq l) st S I
theorem rv_X6_readLine_0 {d : Nat} {Rq : SmQ} {l : SmL} {st : List SmV} {S : SmS} {I : SmI} (h : tr_X6_readLine_0 d Rq l st S I) : SW mi_X6_readLine 0 d Rq l st S I :=
  (show SmW mi_X6_readLine 0 d Rq (tr_X6_readLine_0 d Rq) from
  (xv_aload_n dX6_readLine_0 rfl
  (xv_callV dX6_readLine_1 cl_11 tg_11 ok_X6_lineNow rfl (lw_V q1971 q1973 qs51 q117 q1974)))) l st S I h
def tr_X6_readLine_4 (d : Nat) (Rq : SmQ) (l : SmL) (st : List SmV) (S : SmS) (I : SmI) : Prop :=
  im_istore 1 l st S I fun l st S I =>
  im_aload 0 l st S I fun l st S I =>
  im_iload 1 l st S I fun l st S I =>
  im_ic (-4) l st S I fun l st S I =>
  im_ceq l st S I (fun l st S I =>
  im_ic 0 l st S I fun l st S I =>
  im_ic 2 l st S I fun l st S I =>
  im_callV 2 11 mi_X6_requires d (retK mi_X6_readLine 18 21 d Rq l) st S I) (fun l st S I =>
  im_ic 1 l st S I fun l st S I =>
  im_ic 2 l st S I fun l st S I =>
  im_callV 2 11 mi_X6_requires d (retK mi_X6_readLine 18 21 d Rq l) st S I)
theorem rv_X6_readLine_4 {d : Nat} {Rq : SmQ} {l : SmL} {st : List SmV} {S : SmS} {I : SmI} (h : tr_X6_readLine_4 d Rq l st S I) : SW mi_X6_readLine 4 d Rq l st S I :=
  (show SmW mi_X6_readLine 4 d Rq (tr_X6_readLine_4 d Rq) from
  (xv_istore_n dX6_readLine_4 rfl (Nat.le_of_ble_eq_true rfl)
  (xv_aload_n dX6_readLine_5 rfl
  (xv_iload_n dX6_readLine_6 rfl
  (xv_bipush dX6_readLine_7 rfl (inRd rfl)
  (xv_ceq dX6_readLine_9 rfl
  (xv_iconst dX6_readLine_16 rfl (inRd rfl)
  (xv_iconst dX6_readLine_17 rfl (inRd rfl)
  (xv_callV dX6_readLine_18 cl_11 tg_11 ok_X6_requires rfl (lw_V q1963 q1965 qs49 q117 q1966))))
  (xv_iconst dX6_readLine_12 rfl (inRd rfl)
  (xv_goto dX6_readLine_13 rfl (xv_iconst dX6_readLine_17 rfl (inRd rfl)
  (xv_callV dX6_readLine_18 cl_11 tg_11 ok_X6_requires rfl (lw_V q1963 q1965 qs49 q117 q1966))))))))))) l st S I h
def tr_X6_readLine_21 (d : Nat) (Rq : SmQ) (l : SmL) (st : List SmV) (S : SmS) (I : SmI) : Prop :=
  im_aload 0 l st S I fun l st S I =>
  im_iload 1 l st S I fun l st S I =>
  im_ic (-4) l st S I fun l st S I =>
  im_ceq l st S I (fun l st S I =>
  im_ic 1 l st S I fun l st S I =>
  im_ic 5 l st S I fun l st S I =>
  im_callV 2 11 mi_X6_requires d (retK mi_X6_readLine 42 45 d Rq l) st S I) (fun l st S I =>
  im_aload 0 l st S I fun l st S I =>
  im_iload 1 l st S I fun l st S I =>
  im_callV 1 11 mi_X6_hasRoom d (retK mi_X6_readLine 30 33 d Rq l) st S I)
theorem rv_X6_readLine_21 {d : Nat} {Rq : SmQ} {l : SmL} {st : List SmV} {S : SmS} {I : SmI} (h : tr_X6_readLine_21 d Rq l st S I) : SW mi_X6_readLine 21 d Rq l st S I :=
  (show SmW mi_X6_readLine 21 d Rq (tr_X6_readLine_21 d Rq) from
  (xv_aload_n dX6_readLine_21 rfl
  (xv_iload_n dX6_readLine_22 rfl
  (xv_bipush dX6_readLine_23 rfl (inRd rfl)
  (xv_ceq dX6_readLine_25 rfl
  (xv_iconst dX6_readLine_36 rfl (inRd rfl)
  (xv_goto dX6_readLine_37 rfl (xv_iconst dX6_readLine_41 rfl (inRd rfl)
  (xv_callV dX6_readLine_42 cl_11 tg_11 ok_X6_requires rfl (lw_V q1963 q1965 qs49 q117 q1966)))))
  (xv_aload_n dX6_readLine_28 rfl
  (xv_iload_n dX6_readLine_29 rfl
  (xv_callV dX6_readLine_30 cl_11 tg_11 ok_X6_hasRoom rfl (lw_V q1979 q1981 qs53 q117 q1982))))))))) l st S I h
def tr_X6_readLine_33 (d : Nat) (Rq : SmQ) (l : SmL) (st : List SmV) (S : SmS) (I : SmI) : Prop :=
  im_zeq l st S I (fun l st S I =>
  im_ic 0 l st S I fun l st S I =>
  im_ic 5 l st S I fun l st S I =>
  im_callV 2 11 mi_X6_requires d (retK mi_X6_readLine 42 45 d Rq l) st S I) (fun l st S I =>
  im_ic 1 l st S I fun l st S I =>
  im_ic 5 l st S I fun l st S I =>
  im_callV 2 11 mi_X6_requires d (retK mi_X6_readLine 42 45 d Rq l) st S I)
theorem rv_X6_readLine_33 {d : Nat} {Rq : SmQ} {l : SmL} {st : List SmV} {S : SmS} {I : SmI} (h : tr_X6_readLine_33 d Rq l st S I) : SW mi_X6_readLine 33 d Rq l st S I :=
  (show SmW mi_X6_readLine 33 d Rq (tr_X6_readLine_33 d Rq) from
  (xv_zeq dX6_readLine_33 rfl
  (xv_iconst dX6_readLine_40 rfl (inRd rfl)
  (xv_iconst dX6_readLine_41 rfl (inRd rfl)
  (xv_callV dX6_readLine_42 cl_11 tg_11 ok_X6_requires rfl (lw_V q1963 q1965 qs49 q117 q1966))))
  (xv_iconst dX6_readLine_36 rfl (inRd rfl)
  (xv_goto dX6_readLine_37 rfl (xv_iconst dX6_readLine_41 rfl (inRd rfl)
  (xv_callV dX6_readLine_42 cl_11 tg_11 ok_X6_requires rfl (lw_V q1963 q1965 qs49 q117 q1966))))))) l st S I h
def tr_X6_readLine_45 (d : Nat) (Rq : SmQ) (l : SmL) (st : List SmV) (S : SmS) (I : SmI) : Prop :=
  im_aload 0 l st S I fun l st S I =>
  im_callV 0 11 mi_X6_reads d (retK mi_X6_readLine 46 49 d Rq l) st S I
theorem rv_X6_readLine_45 {d : Nat} {Rq : SmQ} {l : SmL} {st : List SmV} {S : SmS} {I : SmI} (h : tr_X6_readLine_45 d Rq l st S I) : SW mi_X6_readLine 45 d Rq l st S I :=
  (show SmW mi_X6_readLine 45 d Rq (tr_X6_readLine_45 d Rq) from
  (xv_aload_n dX6_readLine_45 rfl
  (xv_callV dX6_readLine_46 cl_11 tg_11 ok_X6_reads rfl (lw_V q1951 q1953 qs47 q117 q1954)))) l st S I h
def tr_X6_readLine_49 (d : Nat) (Rq : SmQ) (l : SmL) (st : List SmV) (S : SmS) (I : SmI) : Prop :=
  im_aload 0 l st S I fun l st S I =>
  im_getI 11 11 l st S I fun l st S I =>
  im_zle l st S I (fun l st S I =>
  im_iload 1 l st S I fun l st S I =>
  im_zne l st S I (fun l st S I =>
  im_iload 1 l st S I fun l st S I =>
  im_ic 2 l st S I fun l st S I =>
  im_cne l st S I (fun l st S I =>
  im_aload 0 l st S I fun l st S I =>
  im_getR 11 1 l st S I fun l st S I =>
  im_ic 4 l st S I fun l st S I =>
  im_ic 5 l st S I fun l st S I =>
  im_aload 0 l st S I fun l st S I =>
  im_getR 11 1 l st S I fun l st S I =>
  im_ic 0 l st S I fun l st S I =>
  im_ald 100 l st S I fun l st S I =>
  im_ic 1 l st S I fun l st S I =>
  im_isub l st S I fun l st S I =>
  im_imul l st S I fun l st S I =>
  im_iadd l st S I fun l st S I =>
  im_ic 4 l st S I fun l st S I =>
  im_iadd l st S I fun l st S I =>
  im_aload 0 l st S I fun l st S I =>
  im_ic 1 l st S I fun l st S I =>
  im_ic 9 l st S I fun l st S I =>
  im_ic (-4) l st S I fun l st S I =>
  im_callV 3 11 mi_X6_readNumber d (retK mi_X6_readLine 104 107 d Rq l) st S I) (fun l st S I =>
  im_aload 0 l st S I fun l st S I =>
  im_callV 0 11 mi_X6_readTrain d (retK mi_X6_readLine 74 77 d Rq l) st S I)) (fun l st S I =>
  im_aload 0 l st S I fun l st S I =>
  im_callV 0 11 mi_X6_readPlace d (retK mi_X6_readLine 62 65 d Rq l) st S I)) (fun l st S I =>
  im_return Rq l st S I)
theorem rv_X6_readLine_49 {d : Nat} {Rq : SmQ} {l : SmL} {st : List SmV} {S : SmS} {I : SmI} (h : tr_X6_readLine_49 d Rq l st S I) : SW mi_X6_readLine 49 d Rq l st S I :=
  (show SmW mi_X6_readLine 49 d Rq (tr_X6_readLine_49 d Rq) from
  (xv_aload_n dX6_readLine_49 rfl
  (xv_getI (k := 11) dX6_readLine_50 cl_11 tg_11 in_X6 (Nat.le_of_ble_eq_true rfl) rfl q1873
  (xv_zle dX6_readLine_53 rfl
  (xv_iload_n dX6_readLine_57 rfl
  (xv_zne dX6_readLine_58 rfl
  (xv_iload_n dX6_readLine_68 rfl
  (xv_iconst dX6_readLine_69 rfl (inRd rfl)
  (xv_cne dX6_readLine_70 rfl
  (xv_aload_n dX6_readLine_80 rfl
  (xv_getR (k := 1) dX6_readLine_81 cl_11 tg_11 in_X6 (Nat.le_of_ble_eq_true rfl) rfl q1863
  (xv_iconst dX6_readLine_84 rfl (inRd rfl)
  (xv_iconst dX6_readLine_85 rfl (inRd rfl)
  (xv_aload_n dX6_readLine_86 rfl
  (xv_getR (k := 1) dX6_readLine_87 cl_11 tg_11 in_X6 (Nat.le_of_ble_eq_true rfl) rfl q1863
  (xv_iconst dX6_readLine_90 rfl (inRd rfl)
  (xv_iald dX6_readLine_91
  (xv_iconst dX6_readLine_92 rfl (inRd rfl)
  (xv_isub dX6_readLine_93
  (xv_imul dX6_readLine_94
  (xv_iadd dX6_readLine_95
  (xv_iconst dX6_readLine_96 rfl (inRd rfl)
  (xv_iadd dX6_readLine_97
  (xv_aload_n dX6_readLine_98 rfl
  (xv_iconst dX6_readLine_99 rfl (inRd rfl)
  (xv_bipush dX6_readLine_100 rfl (inRd rfl)
  (xv_bipush dX6_readLine_102 rfl (inRd rfl)
  (xv_callV dX6_readLine_104 cl_11 tg_11 ok_X6_readNumber rfl (lw_V q1987 q1989 qs55 q117 q1990))))))))))))))))))))
  (xv_aload_n dX6_readLine_73 rfl
  (xv_callV dX6_readLine_74 cl_11 tg_11 ok_X6_readTrain rfl (lw_V q1991 q1993 qs56 q117 q1994))))))
  (xv_aload_n dX6_readLine_61 rfl
  (xv_callV dX6_readLine_62 cl_11 tg_11 ok_X6_readPlace rfl (lw_V q1983 q1985 qs54 q117 q1986)))))
  (xv_return dX6_readLine_56 rfl))))) l st S I h
def tr_X6_readLine_65 (d : Nat) (Rq : SmQ) (l : SmL) (st : List SmV) (S : SmS) (I : SmI) : Prop :=
  SW mi_X6_readLine 108 d Rq l st S I
theorem rv_X6_readLine_65 {d : Nat} {Rq : SmQ} {l : SmL} {st : List SmV} {S : SmS} {I : SmI} (h : tr_X6_readLine_65 d Rq l st S I) : SW mi_X6_readLine 65 d Rq l st S I :=
  (show SmW mi_X6_readLine 65 d Rq (tr_X6_readLine_65 d Rq) from
  (xv_goto dX6_readLine_65 rfl (fun _ _ _ _ h => h))) l st S I h
def tr_X6_readLine_77 (d : Nat) (Rq : SmQ) (l : SmL) (st : List SmV) (S : SmS) (I : SmI) : Prop :=
  SW mi_X6_readLine 108 d Rq l st S I
theorem rv_X6_readLine_77 {d : Nat} {Rq : SmQ} {l : SmL} {st : List SmV} {S : SmS} {I : SmI} (h : tr_X6_readLine_77 d Rq l st S I) : SW mi_X6_readLine 77 d Rq l st S I :=
  (show SmW mi_X6_readLine 77 d Rq (tr_X6_readLine_77 d Rq) from
  (xv_goto dX6_readLine_77 rfl (fun _ _ _ _ h => h))) l st S I h
def tr_X6_readLine_107 (d : Nat) (Rq : SmQ) (l : SmL) (st : List SmV) (S : SmS) (I : SmI) : Prop :=
  im_iast l st S I fun l st S I =>
  SW mi_X6_readLine 108 d Rq l st S I
theorem rv_X6_readLine_107 {d : Nat} {Rq : SmQ} {l : SmL} {st : List SmV} {S : SmS} {I : SmI} (h : tr_X6_readLine_107 d Rq l st S I) : SW mi_X6_readLine 107 d Rq l st S I :=
  (show SmW mi_X6_readLine 107 d Rq (tr_X6_readLine_107 d Rq) from
  (xv_iast dX6_readLine_107
  (fun _ _ _ _ h => h))) l st S I h
def tr_X6_readLine_108 (d : Nat) (Rq : SmQ) (l : SmL) (st : List SmV) (S : SmS) (I : SmI) : Prop :=
  im_aload 0 l st S I fun l st S I =>
  im_getI 11 11 l st S I fun l st S I =>
  im_zne l st S I (fun l st S I =>
  SW mi_X6_readLine 133 d Rq l st S I) (fun l st S I =>
  im_aload 0 l st S I fun l st S I =>
  im_aload 0 l st S I fun l st S I =>
  im_getI 11 9 l st S I fun l st S I =>
  im_ic 3 l st S I fun l st S I =>
  im_cne l st S I (fun l st S I =>
  im_ic 0 l st S I fun l st S I =>
  im_ic 2 l st S I fun l st S I =>
  im_callV 2 11 mi_X6_requires d (retK mi_X6_readLine 130 133 d Rq l) st S I) (fun l st S I =>
  im_ic 1 l st S I fun l st S I =>
  im_ic 2 l st S I fun l st S I =>
  im_callV 2 11 mi_X6_requires d (retK mi_X6_readLine 130 133 d Rq l) st S I))
theorem rv_X6_readLine_108 {d : Nat} {Rq : SmQ} {l : SmL} {st : List SmV} {S : SmS} {I : SmI} (h : tr_X6_readLine_108 d Rq l st S I) : SW mi_X6_readLine 108 d Rq l st S I :=
  (show SmW mi_X6_readLine 108 d Rq (tr_X6_readLine_108 d Rq) from
  (xv_aload_n dX6_readLine_108 rfl
  (xv_getI (k := 11) dX6_readLine_109 cl_11 tg_11 in_X6 (Nat.le_of_ble_eq_true rfl) rfl q1873
  (xv_zne dX6_readLine_112 rfl
  (fun _ _ _ _ h => h)
  (xv_aload_n dX6_readLine_115 rfl
  (xv_aload_n dX6_readLine_116 rfl
  (xv_getI (k := 9) dX6_readLine_117 cl_11 tg_11 in_X6 (Nat.le_of_ble_eq_true rfl) rfl q1871
  (xv_iconst dX6_readLine_120 rfl (inRd rfl)
  (xv_cne dX6_readLine_121 rfl
  (xv_iconst dX6_readLine_128 rfl (inRd rfl)
  (xv_iconst dX6_readLine_129 rfl (inRd rfl)
  (xv_callV dX6_readLine_130 cl_11 tg_11 ok_X6_requires rfl (lw_V q1963 q1965 qs49 q117 q1966))))
  (xv_iconst dX6_readLine_124 rfl (inRd rfl)
  (xv_goto dX6_readLine_125 rfl (xv_iconst dX6_readLine_129 rfl (inRd rfl)
  (xv_callV dX6_readLine_130 cl_11 tg_11 ok_X6_requires rfl (lw_V q1963 q1965 qs49 q117 q1966)))))))))))))) l st S I h
def tr_X6_readLine_133 (d : Nat) (Rq : SmQ) (l : SmL) (st : List SmV) (S : SmS) (I : SmI) : Prop :=
  im_aload 0 l st S I fun l st S I =>
  im_callV 0 11 mi_X6_reads d (retK mi_X6_readLine 134 137 d Rq l) st S I
theorem rv_X6_readLine_133 {d : Nat} {Rq : SmQ} {l : SmL} {st : List SmV} {S : SmS} {I : SmI} (h : tr_X6_readLine_133 d Rq l st S I) : SW mi_X6_readLine 133 d Rq l st S I :=
  (show SmW mi_X6_readLine 133 d Rq (tr_X6_readLine_133 d Rq) from
  (xv_aload_n dX6_readLine_133 rfl
  (xv_callV dX6_readLine_134 cl_11 tg_11 ok_X6_reads rfl (lw_V q1951 q1953 qs47 q117 q1954)))) l st S I h
def tr_X6_readLine_137 (d : Nat) (Rq : SmQ) (l : SmL) (st : List SmV) (S : SmS) (I : SmI) : Prop :=
  im_return Rq l st S I
theorem rv_X6_readLine_137 {d : Nat} {Rq : SmQ} {l : SmL} {st : List SmV} {S : SmS} {I : SmI} (h : tr_X6_readLine_137 d Rq l st S I) : SW mi_X6_readLine 137 d Rq l st S I :=
  (show SmW mi_X6_readLine 137 d Rq (tr_X6_readLine_137 d Rq) from
  (xv_return dX6_readLine_137 rfl)) l st S I h
def tr_X6_text_0 (d : Nat) (Rq : SmQ) (l : SmL) (st : List SmV) (S : SmS) (I : SmI) : Prop :=
  im_ic 0 l st S I fun l st S I =>
  im_istore 1 l st S I fun l st S I =>
  im_aload 0 l st S I fun l st S I =>
  im_ic 0 l st S I fun l st S I =>
  im_putI 11 11 l st S I fun l st S I =>
  im_aload 0 l st S I fun l st S I =>
  im_ic 0 l st S I fun l st S I =>
  im_putI 11 7 l st S I fun l st S I =>
  im_ic 0 l st S I fun l st S I =>
  im_istore 2 l st S I fun l st S I =>
  SW mi_X6_text 14 d Rq l st S I
theorem rv_X6_text_0 {d : Nat} {Rq : SmQ} {l : SmL} {st : List SmV} {S : SmS} {I : SmI} (h : tr_X6_text_0 d Rq l st S I) : SW mi_X6_text 0 d Rq l st S I :=
  (show SmW mi_X6_text 0 d Rq (tr_X6_text_0 d Rq) from
  (xv_iconst dX6_text_0 rfl (inRd rfl)
  (xv_istore_n dX6_text_1 rfl (Nat.le_of_ble_eq_true rfl)
  (xv_aload_n dX6_text_2 rfl
  (xv_iconst dX6_text_3 rfl (inRd rfl)
  (xv_putI (k := 11) dX6_text_4 cl_11 tg_11 in_X6 tyX6_ok nmX6 (Nat.le_of_ble_eq_true rfl) rfl ⟨Or.inl q1873, Or.inl rfl⟩
  (xv_aload_n dX6_text_7 rfl
  (xv_iconst dX6_text_8 rfl (inRd rfl)
  (xv_putI (k := 7) dX6_text_9 cl_11 tg_11 in_X6 tyX6_ok nmX6 (Nat.le_of_ble_eq_true rfl) rfl ⟨Or.inl q1869, Or.inl rfl⟩
  (xv_iconst dX6_text_12 rfl (inRd rfl)
  (xv_istore_n dX6_text_13 rfl (Nat.le_of_ble_eq_true rfl)
  (fun _ _ _ _ h => h)))))))))))) l st S I h
def tr_X6_text_14 (d : Nat) (Rq : SmQ) (l : SmL) (st : List SmV) (S : SmS) (I : SmI) : Prop :=
  im_iload 2 l st S I fun l st S I =>
  im_ic 238 l st S I fun l st S I =>
  im_cge l st S I (fun l st S I =>
  im_aload 0 l st S I fun l st S I =>
  im_callV 0 11 mi_X6_reads d (retK mi_X6_text 35 38 d Rq l) st S I) (fun l st S I =>
  im_aload 0 l st S I fun l st S I =>
  im_getR 11 1 l st S I fun l st S I =>
  im_iload 2 l st S I fun l st S I =>
  im_ic 0 l st S I fun l st S I =>
  im_iast l st S I fun l st S I =>
  im_iinc 2 1 l st S I fun l st S I =>
  SW mi_X6_text 14 d Rq l st S I)
theorem rv_X6_text_14 {d : Nat} {Rq : SmQ} {l : SmL} {st : List SmV} {S : SmS} {I : SmI} (h : tr_X6_text_14 d Rq l st S I) : SW mi_X6_text 14 d Rq l st S I :=
  (show SmW mi_X6_text 14 d Rq (tr_X6_text_14 d Rq) from
  (xv_iload_n dX6_text_14 rfl
  (xv_sipush dX6_text_15 rfl (inRd rfl)
  (xv_cge dX6_text_18 rfl
  (xv_aload_n dX6_text_34 rfl
  (xv_callV dX6_text_35 cl_11 tg_11 ok_X6_reads rfl (lw_V q1951 q1953 qs47 q117 q1954)))
  (xv_aload_n dX6_text_21 rfl
  (xv_getR (k := 1) dX6_text_22 cl_11 tg_11 in_X6 (Nat.le_of_ble_eq_true rfl) rfl q1863
  (xv_iload_n dX6_text_25 rfl
  (xv_iconst dX6_text_26 rfl (inRd rfl)
  (xv_iast dX6_text_27
  (xv_iinc dX6_text_28 (Nat.le_of_ble_eq_true rfl)
  (xv_goto dX6_text_31 rfl (fun _ _ _ _ h => h)))))))))))) l st S I h
def tr_X6_text_38 (d : Nat) (Rq : SmQ) (l : SmL) (st : List SmV) (S : SmS) (I : SmI) : Prop :=
  im_aload 0 l st S I fun l st S I =>
  im_getI 11 11 l st S I fun l st S I =>
  im_zne l st S I (fun l st S I =>
  im_aload 0 l st S I fun l st S I =>
  im_getI 11 11 l st S I fun l st S I =>
  im_zne l st S I (fun l st S I =>
  SW mi_X6_text 171 d Rq l st S I) (fun l st S I =>
  im_aload 0 l st S I fun l st S I =>
  im_callV 0 11 mi_X6_keepBefore d (retK mi_X6_text 70 73 d Rq l) st S I)) (fun l st S I =>
  im_aload 0 l st S I fun l st S I =>
  im_getI 11 9 l st S I fun l st S I =>
  im_zeq l st S I (fun l st S I =>
  im_aload 0 l st S I fun l st S I =>
  im_getI 11 11 l st S I fun l st S I =>
  im_zne l st S I (fun l st S I =>
  SW mi_X6_text 171 d Rq l st S I) (fun l st S I =>
  im_aload 0 l st S I fun l st S I =>
  im_callV 0 11 mi_X6_keepBefore d (retK mi_X6_text 70 73 d Rq l) st S I)) (fun l st S I =>
  im_aload 0 l st S I fun l st S I =>
  im_callV 0 11 mi_X6_readLine d (retK mi_X6_text 53 56 d Rq l) st S I))
theorem rv_X6_text_38 {d : Nat} {Rq : SmQ} {l : SmL} {st : List SmV} {S : SmS} {I : SmI} (h : tr_X6_text_38 d Rq l st S I) : SW mi_X6_text 38 d Rq l st S I :=
  (show SmW mi_X6_text 38 d Rq (tr_X6_text_38 d Rq) from
  (xv_aload_n dX6_text_38 rfl
  (xv_getI (k := 11) dX6_text_39 cl_11 tg_11 in_X6 (Nat.le_of_ble_eq_true rfl) rfl q1873
  (xv_zne dX6_text_42 rfl
  (xv_aload_n dX6_text_62 rfl
  (xv_getI (k := 11) dX6_text_63 cl_11 tg_11 in_X6 (Nat.le_of_ble_eq_true rfl) rfl q1873
  (xv_zne dX6_text_66 rfl
  (fun _ _ _ _ h => h)
  (xv_aload_n dX6_text_69 rfl
  (xv_callV dX6_text_70 cl_11 tg_11 ok_X6_keepBefore rfl (lw_V q1995 q1997 qs57 q117 q1998))))))
  (xv_aload_n dX6_text_45 rfl
  (xv_getI (k := 9) dX6_text_46 cl_11 tg_11 in_X6 (Nat.le_of_ble_eq_true rfl) rfl q1871
  (xv_zeq dX6_text_49 rfl
  (xv_aload_n dX6_text_62 rfl
  (xv_getI (k := 11) dX6_text_63 cl_11 tg_11 in_X6 (Nat.le_of_ble_eq_true rfl) rfl q1873
  (xv_zne dX6_text_66 rfl
  (fun _ _ _ _ h => h)
  (xv_aload_n dX6_text_69 rfl
  (xv_callV dX6_text_70 cl_11 tg_11 ok_X6_keepBefore rfl (lw_V q1995 q1997 qs57 q117 q1998))))))
  (xv_aload_n dX6_text_52 rfl
  (xv_callV dX6_text_53 cl_11 tg_11 ok_X6_readLine rfl (lw_V q1967 q1969 qs50 q117 q1970)))))))))) l st S I h
def tr_X6_text_56 (d : Nat) (Rq : SmQ) (l : SmL) (st : List SmV) (S : SmS) (I : SmI) : Prop :=
  im_iinc 1 1 l st S I fun l st S I =>
  SW mi_X6_text 38 d Rq l st S I
theorem rv_X6_text_56 {d : Nat} {Rq : SmQ} {l : SmL} {st : List SmV} {S : SmS} {I : SmI} (h : tr_X6_text_56 d Rq l st S I) : SW mi_X6_text 56 d Rq l st S I :=
  (show SmW mi_X6_text 56 d Rq (tr_X6_text_56 d Rq) from
  (xv_iinc dX6_text_56 (Nat.le_of_ble_eq_true rfl)
  (xv_goto dX6_text_59 rfl (fun _ _ _ _ h => h)))) l st S I h
def tr_X6_text_73 (d : Nat) (Rq : SmQ) (l : SmL) (st : List SmV) (S : SmS) (I : SmI) : Prop :=
  im_ic 0 l st S I fun l st S I =>
  im_istore 2 l st S I fun l st S I =>
  SW mi_X6_text 75 d Rq l st S I
theorem rv_X6_text_73 {d : Nat} {Rq : SmQ} {l : SmL} {st : List SmV} {S : SmS} {I : SmI} (h : tr_X6_text_73 d Rq l st S I) : SW mi_X6_text 73 d Rq l st S I :=
  (show SmW mi_X6_text 73 d Rq (tr_X6_text_73 d Rq) from
  (xv_iconst dX6_text_73 rfl (inRd rfl)
  (xv_istore_n dX6_text_74 rfl (Nat.le_of_ble_eq_true rfl)
  (fun _ _ _ _ h => h)))) l st S I h
def tr_X6_text_75 (d : Nat) (Rq : SmQ) (l : SmL) (st : List SmV) (S : SmS) (I : SmI) : Prop :=
  im_iload 2 l st S I fun l st S I =>
  im_ic 238 l st S I fun l st S I =>
  im_cge l st S I (fun l st S I =>
  im_aload 0 l st S I fun l st S I =>
  im_aload 0 l st S I fun l st S I =>
  im_p_X6_areAllPlaces d l st S I fun l st S I =>
  im_ic 6 l st S I fun l st S I =>
  im_callV 2 11 mi_X6_requires d (retK mi_X6_text 107 110 d Rq l) st S I) (fun l st S I =>
  im_aload 0 l st S I fun l st S I =>
  im_getR 11 0 l st S I fun l st S I =>
  im_iload 2 l st S I fun l st S I =>
  im_aload 0 l st S I fun l st S I =>
  im_getR 11 1 l st S I fun l st S I =>
  im_iload 2 l st S I fun l st S I =>
  im_ald 100 l st S I fun l st S I =>
  im_iast l st S I fun l st S I =>
  im_iinc 2 1 l st S I fun l st S I =>
  SW mi_X6_text 75 d Rq l st S I)
theorem rv_X6_text_75 {d : Nat} {Rq : SmQ} {l : SmL} {st : List SmV} {S : SmS} {I : SmI} (h : tr_X6_text_75 d Rq l st S I) : SW mi_X6_text 75 d Rq l st S I :=
  (show SmW mi_X6_text 75 d Rq (tr_X6_text_75 d Rq) from
  (xv_iload_n dX6_text_75 rfl
  (xv_sipush dX6_text_76 rfl (inRd rfl)
  (xv_cge dX6_text_79 rfl
  (xv_aload_n dX6_text_100 rfl
  (xv_aload_n dX6_text_101 rfl
  (xv_p_X6_areAllPlaces dX6_text_102 (lw_V q1999 q2001 qs58 q117 q2002)
  (xv_bipush dX6_text_105 rfl (inRd rfl)
  (xv_callV dX6_text_107 cl_11 tg_11 ok_X6_requires rfl (lw_V q1963 q1965 qs49 q117 q1966))))))
  (xv_aload_n dX6_text_82 rfl
  (xv_getR (k := 0) dX6_text_83 cl_11 tg_11 in_X6 (Nat.le_of_ble_eq_true rfl) rfl q1862
  (xv_iload_n dX6_text_86 rfl
  (xv_aload_n dX6_text_87 rfl
  (xv_getR (k := 1) dX6_text_88 cl_11 tg_11 in_X6 (Nat.le_of_ble_eq_true rfl) rfl q1863
  (xv_iload_n dX6_text_91 rfl
  (xv_iald dX6_text_92
  (xv_iast dX6_text_93
  (xv_iinc dX6_text_94 (Nat.le_of_ble_eq_true rfl)
  (xv_goto dX6_text_97 rfl (fun _ _ _ _ h => h))))))))))))))) l st S I h
def tr_X6_text_110 (d : Nat) (Rq : SmQ) (l : SmL) (st : List SmV) (S : SmS) (I : SmI) : Prop :=
  im_aload 0 l st S I fun l st S I =>
  im_aload 0 l st S I fun l st S I =>
  im_getI 11 11 l st S I fun l st S I =>
  im_zgt l st S I (fun l st S I =>
  im_ic 1 l st S I fun l st S I =>
  im_ic 7 l st S I fun l st S I =>
  im_callV 2 11 mi_X6_requires d (retK mi_X6_text 132 135 d Rq l) st S I) (fun l st S I =>
  im_aload 0 l st S I fun l st S I =>
  im_callV 0 11 mi_X6_isHeldAll d (retK mi_X6_text 119 122 d Rq l) st S I)
theorem rv_X6_text_110 {d : Nat} {Rq : SmQ} {l : SmL} {st : List SmV} {S : SmS} {I : SmI} (h : tr_X6_text_110 d Rq l st S I) : SW mi_X6_text 110 d Rq l st S I :=
  (show SmW mi_X6_text 110 d Rq (tr_X6_text_110 d Rq) from
  (xv_aload_n dX6_text_110 rfl
  (xv_aload_n dX6_text_111 rfl
  (xv_getI (k := 11) dX6_text_112 cl_11 tg_11 in_X6 (Nat.le_of_ble_eq_true rfl) rfl q1873
  (xv_zgt dX6_text_115 rfl
  (xv_iconst dX6_text_125 rfl (inRd rfl)
  (xv_goto dX6_text_126 rfl (xv_bipush dX6_text_130 rfl (inRd rfl)
  (xv_callV dX6_text_132 cl_11 tg_11 ok_X6_requires rfl (lw_V q1963 q1965 qs49 q117 q1966)))))
  (xv_aload_n dX6_text_118 rfl
  (xv_callV dX6_text_119 cl_11 tg_11 ok_X6_isHeldAll rfl (lw_V q2007 q2009 qs60 q117 q2010)))))))) l st S I h
def tr_X6_text_122 (d : Nat) (Rq : SmQ) (l : SmL) (st : List SmV) (S : SmS) (I : SmI) : Prop :=
  im_zeq l st S I (fun l st S I =>
  im_ic 0 l st S I fun l st S I =>
  im_ic 7 l st S I fun l st S I =>
  im_callV 2 11 mi_X6_requires d (retK mi_X6_text 132 135 d Rq l) st S I) (fun l st S I =>
  im_ic 1 l st S I fun l st S I =>
  im_ic 7 l st S I fun l st S I =>
  im_callV 2 11 mi_X6_requires d (retK mi_X6_text 132 135 d Rq l) st S I)
theorem rv_X6_text_122 {d : Nat} {Rq : SmQ} {l : SmL} {st : List SmV} {S : SmS} {I : SmI} (h : tr_X6_text_122 d Rq l st S I) : SW mi_X6_text 122 d Rq l st S I :=
  (show SmW mi_X6_text 122 d Rq (tr_X6_text_122 d Rq) from
  (xv_zeq dX6_text_122 rfl
  (xv_iconst dX6_text_129 rfl (inRd rfl)
  (xv_bipush dX6_text_130 rfl (inRd rfl)
  (xv_callV dX6_text_132 cl_11 tg_11 ok_X6_requires rfl (lw_V q1963 q1965 qs49 q117 q1966))))
  (xv_iconst dX6_text_125 rfl (inRd rfl)
  (xv_goto dX6_text_126 rfl (xv_bipush dX6_text_130 rfl (inRd rfl)
  (xv_callV dX6_text_132 cl_11 tg_11 ok_X6_requires rfl (lw_V q1963 q1965 qs49 q117 q1966))))))) l st S I h
def tr_X6_text_135 (d : Nat) (Rq : SmQ) (l : SmL) (st : List SmV) (S : SmS) (I : SmI) : Prop :=
  im_aload 0 l st S I fun l st S I =>
  im_aload 0 l st S I fun l st S I =>
  im_getI 11 11 l st S I fun l st S I =>
  im_zgt l st S I (fun l st S I =>
  im_ic 1 l st S I fun l st S I =>
  im_ic 8 l st S I fun l st S I =>
  im_callV 2 11 mi_X6_requires d (retK mi_X6_text 157 160 d Rq l) st S I) (fun l st S I =>
  im_aload 0 l st S I fun l st S I =>
  im_callV 0 11 mi_X6_isSafeNow d (retK mi_X6_text 144 147 d Rq l) st S I)
theorem rv_X6_text_135 {d : Nat} {Rq : SmQ} {l : SmL} {st : List SmV} {S : SmS} {I : SmI} (h : tr_X6_text_135 d Rq l st S I) : SW mi_X6_text 135 d Rq l st S I :=
  (show SmW mi_X6_text 135 d Rq (tr_X6_text_135 d Rq) from
  (xv_aload_n dX6_text_135 rfl
  (xv_aload_n dX6_text_136 rfl
  (xv_getI (k := 11) dX6_text_137 cl_11 tg_11 in_X6 (Nat.le_of_ble_eq_true rfl) rfl q1873
  (xv_zgt dX6_text_140 rfl
  (xv_iconst dX6_text_150 rfl (inRd rfl)
  (xv_goto dX6_text_151 rfl (xv_bipush dX6_text_155 rfl (inRd rfl)
  (xv_callV dX6_text_157 cl_11 tg_11 ok_X6_requires rfl (lw_V q1963 q1965 qs49 q117 q1966)))))
  (xv_aload_n dX6_text_143 rfl
  (xv_callV dX6_text_144 cl_11 tg_11 ok_X6_isSafeNow rfl (lw_V q2045 q2047 qs68 q117 q2048)))))))) l st S I h
def tr_X6_text_147 (d : Nat) (Rq : SmQ) (l : SmL) (st : List SmV) (S : SmS) (I : SmI) : Prop :=
  im_zeq l st S I (fun l st S I =>
  im_ic 0 l st S I fun l st S I =>
  im_ic 8 l st S I fun l st S I =>
  im_callV 2 11 mi_X6_requires d (retK mi_X6_text 157 160 d Rq l) st S I) (fun l st S I =>
  im_ic 1 l st S I fun l st S I =>
  im_ic 8 l st S I fun l st S I =>
  im_callV 2 11 mi_X6_requires d (retK mi_X6_text 157 160 d Rq l) st S I)
theorem rv_X6_text_147 {d : Nat} {Rq : SmQ} {l : SmL} {st : List SmV} {S : SmS} {I : SmI} (h : tr_X6_text_147 d Rq l st S I) : SW mi_X6_text 147 d Rq l st S I :=
  (show SmW mi_X6_text 147 d Rq (tr_X6_text_147 d Rq) from
  (xv_zeq dX6_text_147 rfl
  (xv_iconst dX6_text_154 rfl (inRd rfl)
  (xv_bipush dX6_text_155 rfl (inRd rfl)
  (xv_callV dX6_text_157 cl_11 tg_11 ok_X6_requires rfl (lw_V q1963 q1965 qs49 q117 q1966))))
  (xv_iconst dX6_text_150 rfl (inRd rfl)
  (xv_goto dX6_text_151 rfl (xv_bipush dX6_text_155 rfl (inRd rfl)
  (xv_callV dX6_text_157 cl_11 tg_11 ok_X6_requires rfl (lw_V q1963 q1965 qs49 q117 q1966))))))) l st S I h
def tr_X6_text_160 (d : Nat) (Rq : SmQ) (l : SmL) (st : List SmV) (S : SmS) (I : SmI) : Prop :=
  im_aload 0 l st S I fun l st S I =>
  im_getI 11 11 l st S I fun l st S I =>
  im_zle l st S I (fun l st S I =>
  SW mi_X6_text 171 d Rq l st S I) (fun l st S I =>
  im_aload 0 l st S I fun l st S I =>
  im_callV 0 11 mi_X6_backBefore d (retK mi_X6_text 168 171 d Rq l) st S I)
theorem rv_X6_text_160 {d : Nat} {Rq : SmQ} {l : SmL} {st : List SmV} {S : SmS} {I : SmI} (h : tr_X6_text_160 d Rq l st S I) : SW mi_X6_text 160 d Rq l st S I :=
  (show SmW mi_X6_text 160 d Rq (tr_X6_text_160 d Rq) from
  (xv_aload_n dX6_text_160 rfl
  (xv_getI (k := 11) dX6_text_161 cl_11 tg_11 in_X6 (Nat.le_of_ble_eq_true rfl) rfl q1873
  (xv_zle dX6_text_164 rfl
  (fun _ _ _ _ h => h)
  (xv_aload_n dX6_text_167 rfl
  (xv_callV dX6_text_168 cl_11 tg_11 ok_X6_backBefore rfl (lw_V q2065 q2067 qs73 q117 q2068))))))) l st S I h
def tr_X6_text_171 (d : Nat) (Rq : SmQ) (l : SmL) (st : List SmV) (S : SmS) (I : SmI) : Prop :=
  im_aload 0 l st S I fun l st S I =>
  im_ic 0 l st S I fun l st S I =>
  im_putI 11 6 l st S I fun l st S I =>
  im_aload 0 l st S I fun l st S I =>
  im_getI 11 11 l st S I fun l st S I =>
  im_zle l st S I (fun l st S I =>
  im_aload 0 l st S I fun l st S I =>
  im_getR 11 4 l st S I fun l st S I =>
  im_ic 0 l st S I fun l st S I =>
  im_ic 0 l st S I fun l st S I =>
  im_zast l st S I fun l st S I =>
  im_aload 0 l st S I fun l st S I =>
  im_getR 11 4 l st S I fun l st S I =>
  im_ic 1 l st S I fun l st S I =>
  im_ic 0 l st S I fun l st S I =>
  im_zast l st S I fun l st S I =>
  im_iload 1 l st S I fun l st S I =>
  im_ireturn Rq l st S I) (fun l st S I =>
  im_ic (-10) l st S I fun l st S I =>
  im_aload 0 l st S I fun l st S I =>
  im_getI 11 12 l st S I fun l st S I =>
  im_isub l st S I fun l st S I =>
  im_ireturn Rq l st S I)
theorem rv_X6_text_171 {d : Nat} {Rq : SmQ} {l : SmL} {st : List SmV} {S : SmS} {I : SmI} (h : tr_X6_text_171 d Rq l st S I) : SW mi_X6_text 171 d Rq l st S I :=
  (show SmW mi_X6_text 171 d Rq (tr_X6_text_171 d Rq) from
  (xv_aload_n dX6_text_171 rfl
  (xv_iconst dX6_text_172 rfl (inRd rfl)
  (xv_putI (k := 6) dX6_text_173 cl_11 tg_11 in_X6 tyX6_ok nmX6 (Nat.le_of_ble_eq_true rfl) rfl ⟨Or.inl q1868, Or.inl rfl⟩
  (xv_aload_n dX6_text_176 rfl
  (xv_getI (k := 11) dX6_text_177 cl_11 tg_11 in_X6 (Nat.le_of_ble_eq_true rfl) rfl q1873
  (xv_zle dX6_text_180 rfl
  (xv_aload_n dX6_text_191 rfl
  (xv_getR (k := 4) dX6_text_192 cl_11 tg_11 in_X6 (Nat.le_of_ble_eq_true rfl) rfl q1866
  (xv_iconst dX6_text_195 rfl (inRd rfl)
  (xv_iconst dX6_text_196 rfl (inRd rfl)
  (xv_zast dX6_text_197
  (xv_aload_n dX6_text_198 rfl
  (xv_getR (k := 4) dX6_text_199 cl_11 tg_11 in_X6 (Nat.le_of_ble_eq_true rfl) rfl q1866
  (xv_iconst dX6_text_202 rfl (inRd rfl)
  (xv_iconst dX6_text_203 rfl (inRd rfl)
  (xv_zast dX6_text_204
  (xv_iload_n dX6_text_205 rfl
  (xv_ireturn dX6_text_206 rfl))))))))))))
  (xv_bipush dX6_text_183 rfl (inRd rfl)
  (xv_aload_n dX6_text_185 rfl
  (xv_getI (k := 12) dX6_text_186 cl_11 tg_11 in_X6 (Nat.le_of_ble_eq_true rfl) rfl q1874
  (xv_isub dX6_text_189
  (xv_ireturn dX6_text_190 rfl)))))))))))) l st S I h
