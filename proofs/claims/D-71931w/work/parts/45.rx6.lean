/-! regions of methods, printed by gen/regions.py -/
set_option maxRecDepth 100000
/- X6_postureNow: cut at [0, 4] -/
abbrev mi_X6_postureNow : SmM := (yX6_postureNow, cX6_postureNow, 3, (some FieldType.int : Option FieldType), [])
theorem ok_X6_postureNow : callOk mi_X6_postureNow 0 := ⟨rfl, rfl, Nat.le_of_ble_eq_true rfl, by decide, by decide, by decide +kernel⟩
theorem ent_X6_postureNow (x : Option Nat) : entL (mL mi_X6_postureNow) [vR x] = [some (vR x), none, none] := rfl
/- X6_holds: cut at [0, 4] -/
abbrev mi_X6_holds : SmM := (yX6_holds, cX6_holds, 4, (some FieldType.boolean : Option FieldType), [])
theorem ok_X6_holds : callOk mi_X6_holds 1 := ⟨rfl, rfl, Nat.le_of_ble_eq_true rfl, by decide, by decide, by decide +kernel⟩
theorem ent_X6_holds (x : Option Nat) (x0 : Int) : entL (mL mi_X6_holds) [vR x, vI x0] = [some (vR x), some (vI x0), none, none] := rfl
/- X6_trackOf: cut at [0, 2, 18, 67] -/
abbrev mi_X6_trackOf : SmM := (yX6_trackOf, cX6_trackOf, 7, (some FieldType.int : Option FieldType), [])
theorem ok_X6_trackOf : callOk mi_X6_trackOf 2 := ⟨rfl, rfl, Nat.le_of_ble_eq_true rfl, by decide, by decide, by decide +kernel⟩
theorem ent_X6_trackOf (x : Option Nat) (x0 : Int) (x1 : Int) : entL (mL mi_X6_trackOf) [vR x, vI x0, vI x1] = [some (vR x), some (vI x0), some (vI x1), none, none, none, none] := rfl
/- X6_trainsAt: cut at [0, 4] -/
abbrev mi_X6_trainsAt : SmM := (yX6_trainsAt, cX6_trainsAt, 4, (some FieldType.int : Option FieldType), [])
theorem ok_X6_trainsAt : callOk mi_X6_trainsAt 1 := ⟨rfl, rfl, Nat.le_of_ble_eq_true rfl, by decide, by decide, by decide +kernel⟩
theorem ent_X6_trainsAt (x : Option Nat) (x0 : Int) : entL (mL mi_X6_trainsAt) [vR x, vI x0] = [some (vR x), some (vI x0), none, none] := rfl
/- X6_minutesStill: cut at [0, 12] -/
abbrev mi_X6_minutesStill : SmM := (yX6_minutesStill, cX6_minutesStill, 6, (some FieldType.int : Option FieldType), [])
theorem ok_X6_minutesStill : callOk mi_X6_minutesStill 1 := ⟨rfl, rfl, Nat.le_of_ble_eq_true rfl, by decide, by decide, by decide +kernel⟩
theorem ent_X6_minutesStill (x : Option Nat) (x0 : Int) : entL (mL mi_X6_minutesStill) [vR x, vI x0] = [some (vR x), some (vI x0), none, none, none, none] := rfl
/- X6_runsBetween: cut at [0, 2, 45] -/
abbrev mi_X6_runsBetween : SmM := (yX6_runsBetween, cX6_runsBetween, 5, (some FieldType.int : Option FieldType), [])
theorem ok_X6_runsBetween : callOk mi_X6_runsBetween 2 := ⟨rfl, rfl, Nat.le_of_ble_eq_true rfl, by decide, by decide, by decide +kernel⟩
theorem ent_X6_runsBetween (x : Option Nat) (x0 : Int) (x1 : Int) : entL (mL mi_X6_runsBetween) [vR x, vI x0, vI x1] = [some (vR x), some (vI x0), some (vI x1), none, none] := rfl
/- X6_isGood: cut at [0] -/
abbrev mi_X6_isGood : SmM := (yX6_isGood, cX6_isGood, 4, (some FieldType.boolean : Option FieldType), [])
theorem ok_X6_isGood : callOk mi_X6_isGood 3 := ⟨rfl, rfl, Nat.le_of_ble_eq_true rfl, by decide, by decide, by decide +kernel⟩
theorem ent_X6_isGood (x : Option Nat) (x0 : Int) (x1 : Int) (x2 : Int) : entL (mL mi_X6_isGood) [vR x, vI x0, vI x1, vI x2] = [some (vR x), some (vI x0), some (vI x1), some (vI x2)] := rfl
/- X6_lineNow: cut at [0, 32, 64] -/
abbrev mi_X6_lineNow : SmM := (yX6_lineNow, cX6_lineNow, 1, (some FieldType.int : Option FieldType), [])
theorem ok_X6_lineNow : callOk mi_X6_lineNow 0 := ⟨rfl, rfl, Nat.le_of_ble_eq_true rfl, by decide, by decide, by decide +kernel⟩
theorem ent_X6_lineNow (x : Option Nat) : entL (mL mi_X6_lineNow) [vR x] = [some (vR x)] := rfl
def tr_X6_postureNow_0 (d : Nat) (Rq : SmQ) (l : SmL) (st : List SmV) (S : SmS) (I : SmI) : Prop :=
  im_ic 0 l st S I fun l st S I =>
  im_istore 1 l st S I fun l st S I =>
  im_ic 0 l st S I fun l st S I =>
  im_istore 2 l st S I fun l st S I =>
  SW mi_X6_postureNow 4 d Rq l st S I
theorem rv_X6_postureNow_0 {d : Nat} {Rq : SmQ} {l : SmL} {st : List SmV} {S : SmS} {I : SmI} (h : tr_X6_postureNow_0 d Rq l st S I) : SW mi_X6_postureNow 0 d Rq l st S I :=
  (show SmW mi_X6_postureNow 0 d Rq (tr_X6_postureNow_0 d Rq) from
  (xv_iconst dX6_postureNow_0 rfl (inRd rfl)
  (xv_istore_n dX6_postureNow_1 rfl (Nat.le_of_ble_eq_true rfl)
  (xv_iconst dX6_postureNow_2 rfl (inRd rfl)
  (xv_istore_n dX6_postureNow_3 rfl (Nat.le_of_ble_eq_true rfl)
  (fun _ _ _ _ h => h)))))) l st S I h
def tr_X6_postureNow_4 (d : Nat) (Rq : SmQ) (l : SmL) (st : List SmV) (S : SmS) (I : SmI) : Prop :=
  im_iload 2 l st S I fun l st S I =>
  im_aload 0 l st S I fun l st S I =>
  im_getR 11 0 l st S I fun l st S I =>
  im_ic 1 l st S I fun l st S I =>
  im_ald 100 l st S I fun l st S I =>
  im_cge l st S I (fun l st S I =>
  im_iload 1 l st S I fun l st S I =>
  im_ireturn Rq l st S I) (fun l st S I =>
  im_iload 1 l st S I fun l st S I =>
  im_aload 0 l st S I fun l st S I =>
  im_iload 2 l st S I fun l st S I =>
  im_p_X6_isDoneIn d l st S I fun l st S I =>
  im_zeq l st S I (fun l st S I =>
  im_iload 2 l st S I fun l st S I =>
  im_p_X6_weightOf d l st S I fun l st S I =>
  im_aload 0 l st S I fun l st S I =>
  im_iload 2 l st S I fun l st S I =>
  im_ic 3 l st S I fun l st S I =>
  im_p_X6_ofTrain d l st S I fun l st S I =>
  im_ic 1 l st S I fun l st S I =>
  im_iadd l st S I fun l st S I =>
  im_imul l st S I fun l st S I =>
  im_iadd l st S I fun l st S I =>
  im_istore 1 l st S I fun l st S I =>
  im_iinc 2 1 l st S I fun l st S I =>
  SW mi_X6_postureNow 4 d Rq l st S I) (fun l st S I =>
  im_ic 0 l st S I fun l st S I =>
  im_iadd l st S I fun l st S I =>
  im_istore 1 l st S I fun l st S I =>
  im_iinc 2 1 l st S I fun l st S I =>
  SW mi_X6_postureNow 4 d Rq l st S I))
theorem rv_X6_postureNow_4 {d : Nat} {Rq : SmQ} {l : SmL} {st : List SmV} {S : SmS} {I : SmI} (h : tr_X6_postureNow_4 d Rq l st S I) : SW mi_X6_postureNow 4 d Rq l st S I :=
  (show SmW mi_X6_postureNow 4 d Rq (tr_X6_postureNow_4 d Rq) from
  (xv_iload_n dX6_postureNow_4 rfl
  (xv_aload_n dX6_postureNow_5 rfl
  (xv_getR (k := 0) dX6_postureNow_6 cl_11 tg_11 in_X6 (Nat.le_of_ble_eq_true rfl) rfl q1862
  (xv_iconst dX6_postureNow_9 rfl (inRd rfl)
  (xv_iald dX6_postureNow_10
  (xv_cge dX6_postureNow_11 rfl
  (xv_iload_n dX6_postureNow_48 rfl
  (xv_ireturn dX6_postureNow_49 rfl))
  (xv_iload_n dX6_postureNow_14 rfl
  (xv_aload_n dX6_postureNow_15 rfl
  (xv_iload_n dX6_postureNow_16 rfl
  (xv_p_X6_isDoneIn dX6_postureNow_17 (lw_V q2015 q2017 qs62 q117 q2018)
  (xv_zeq dX6_postureNow_20 rfl
  (xv_iload_n dX6_postureNow_27 rfl
  (xv_p_X6_weightOf dX6_postureNow_28 (lw_S q2019 q2020 q117 q2021)
  (xv_aload_n dX6_postureNow_31 rfl
  (xv_iload_n dX6_postureNow_32 rfl
  (xv_iconst dX6_postureNow_33 rfl (inRd rfl)
  (xv_p_X6_ofTrain dX6_postureNow_34 (lw_V q2003 q2005 qs59 q117 q2006)
  (xv_iconst dX6_postureNow_37 rfl (inRd rfl)
  (xv_iadd dX6_postureNow_38
  (xv_imul dX6_postureNow_39
  (xv_iadd dX6_postureNow_40
  (xv_istore_n dX6_postureNow_41 rfl (Nat.le_of_ble_eq_true rfl)
  (xv_iinc dX6_postureNow_42 (Nat.le_of_ble_eq_true rfl)
  (xv_goto dX6_postureNow_45 rfl (fun _ _ _ _ h => h))))))))))))))
  (xv_iconst dX6_postureNow_23 rfl (inRd rfl)
  (xv_goto dX6_postureNow_24 rfl (xv_iadd dX6_postureNow_40
  (xv_istore_n dX6_postureNow_41 rfl (Nat.le_of_ble_eq_true rfl)
  (xv_iinc dX6_postureNow_42 (Nat.le_of_ble_eq_true rfl)
  (xv_goto dX6_postureNow_45 rfl (fun _ _ _ _ h => h))))))))))))))))))) l st S I h
def tr_X6_holds_0 (d : Nat) (Rq : SmQ) (l : SmL) (st : List SmV) (S : SmS) (I : SmI) : Prop :=
  im_ic 1 l st S I fun l st S I =>
  im_istore 2 l st S I fun l st S I =>
  im_ic 0 l st S I fun l st S I =>
  im_istore 3 l st S I fun l st S I =>
  SW mi_X6_holds 4 d Rq l st S I
theorem rv_X6_holds_0 {d : Nat} {Rq : SmQ} {l : SmL} {st : List SmV} {S : SmS} {I : SmI} (h : tr_X6_holds_0 d Rq l st S I) : SW mi_X6_holds 0 d Rq l st S I :=
  (show SmW mi_X6_holds 0 d Rq (tr_X6_holds_0 d Rq) from
  (xv_iconst dX6_holds_0 rfl (inRd rfl)
  (xv_istore_n dX6_holds_1 rfl (Nat.le_of_ble_eq_true rfl)
  (xv_iconst dX6_holds_2 rfl (inRd rfl)
  (xv_istore_n dX6_holds_3 rfl (Nat.le_of_ble_eq_true rfl)
  (fun _ _ _ _ h => h)))))) l st S I h
def tr_X6_holds_4 (d : Nat) (Rq : SmQ) (l : SmL) (st : List SmV) (S : SmS) (I : SmI) : Prop :=
  im_iload 3 l st S I fun l st S I =>
  im_aload 0 l st S I fun l st S I =>
  im_getR 11 0 l st S I fun l st S I =>
  im_ic 1 l st S I fun l st S I =>
  im_ald 100 l st S I fun l st S I =>
  im_cge l st S I (fun l st S I =>
  im_iload 2 l st S I fun l st S I =>
  im_zreturn Rq l st S I) (fun l st S I =>
  im_aload 0 l st S I fun l st S I =>
  im_getR 11 13 l st S I fun l st S I =>
  im_iload 3 l st S I fun l st S I =>
  im_ald 100 l st S I fun l st S I =>
  im_iload 1 l st S I fun l st S I =>
  im_ic 1 l st S I fun l st S I =>
  im_iadd l st S I fun l st S I =>
  im_cne l st S I (fun l st S I =>
  im_iinc 3 1 l st S I fun l st S I =>
  SW mi_X6_holds 4 d Rq l st S I) (fun l st S I =>
  im_iload 2 l st S I fun l st S I =>
  im_zeq l st S I (fun l st S I =>
  im_ic 0 l st S I fun l st S I =>
  im_istore 2 l st S I fun l st S I =>
  im_iinc 3 1 l st S I fun l st S I =>
  SW mi_X6_holds 4 d Rq l st S I) (fun l st S I =>
  im_aload 0 l st S I fun l st S I =>
  im_iload 1 l st S I fun l st S I =>
  im_aload 0 l st S I fun l st S I =>
  im_iload 3 l st S I fun l st S I =>
  im_ic 2 l st S I fun l st S I =>
  im_p_X6_ofTrain d l st S I fun l st S I =>
  im_p_X6_trainsFor d l st S I fun l st S I =>
  im_aload 0 l st S I fun l st S I =>
  im_iload 1 l st S I fun l st S I =>
  im_aload 0 l st S I fun l st S I =>
  im_iload 3 l st S I fun l st S I =>
  im_ic 2 l st S I fun l st S I =>
  im_p_X6_ofTrain d l st S I fun l st S I =>
  im_p_X6_tracksFor d l st S I fun l st S I =>
  im_cgt l st S I (fun l st S I =>
  im_ic 0 l st S I fun l st S I =>
  im_istore 2 l st S I fun l st S I =>
  im_iinc 3 1 l st S I fun l st S I =>
  SW mi_X6_holds 4 d Rq l st S I) (fun l st S I =>
  im_ic 1 l st S I fun l st S I =>
  im_istore 2 l st S I fun l st S I =>
  im_iinc 3 1 l st S I fun l st S I =>
  SW mi_X6_holds 4 d Rq l st S I))))
theorem rv_X6_holds_4 {d : Nat} {Rq : SmQ} {l : SmL} {st : List SmV} {S : SmS} {I : SmI} (h : tr_X6_holds_4 d Rq l st S I) : SW mi_X6_holds 4 d Rq l st S I :=
  (show SmW mi_X6_holds 4 d Rq (tr_X6_holds_4 d Rq) from
  (xv_iload_n dX6_holds_4 rfl
  (xv_aload_n dX6_holds_5 rfl
  (xv_getR (k := 0) dX6_holds_6 cl_11 tg_11 in_X6 (Nat.le_of_ble_eq_true rfl) rfl q1862
  (xv_iconst dX6_holds_9 rfl (inRd rfl)
  (xv_iald dX6_holds_10
  (xv_cge dX6_holds_11 rfl
  (xv_iload_n dX6_holds_67 rfl
  (xv_zreturn dX6_holds_68 rfl))
  (xv_aload_n dX6_holds_14 rfl
  (xv_getR (k := 13) dX6_holds_15 cl_11 tg_11 in_X6 (Nat.le_of_ble_eq_true rfl) rfl q1875
  (xv_iload_n dX6_holds_18 rfl
  (xv_iald dX6_holds_19
  (xv_iload_n dX6_holds_20 rfl
  (xv_iconst dX6_holds_21 rfl (inRd rfl)
  (xv_iadd dX6_holds_22
  (xv_cne dX6_holds_23 rfl
  (xv_iinc dX6_holds_61 (Nat.le_of_ble_eq_true rfl)
  (xv_goto dX6_holds_64 rfl (fun _ _ _ _ h => h)))
  (xv_iload_n dX6_holds_26 rfl
  (xv_zeq dX6_holds_27 rfl
  (xv_iconst dX6_holds_59 rfl (inRd rfl)
  (xv_istore_n dX6_holds_60 rfl (Nat.le_of_ble_eq_true rfl)
  (xv_iinc dX6_holds_61 (Nat.le_of_ble_eq_true rfl)
  (xv_goto dX6_holds_64 rfl (fun _ _ _ _ h => h)))))
  (xv_aload_n dX6_holds_30 rfl
  (xv_iload_n dX6_holds_31 rfl
  (xv_aload_n dX6_holds_32 rfl
  (xv_iload_n dX6_holds_33 rfl
  (xv_iconst dX6_holds_34 rfl (inRd rfl)
  (xv_p_X6_ofTrain dX6_holds_35 (lw_V q2003 q2005 qs59 q117 q2006)
  (xv_p_X6_trainsFor dX6_holds_38 (lw_V q2030 q2032 qs65 q117 q2033)
  (xv_aload_n dX6_holds_41 rfl
  (xv_iload_n dX6_holds_42 rfl
  (xv_aload_n dX6_holds_43 rfl
  (xv_iload_n dX6_holds_44 rfl
  (xv_iconst dX6_holds_45 rfl (inRd rfl)
  (xv_p_X6_ofTrain dX6_holds_46 (lw_V q2003 q2005 qs59 q117 q2006)
  (xv_p_X6_tracksFor dX6_holds_49 (lw_V q2037 q2039 qs66 q117 q2040)
  (xv_cgt dX6_holds_52 rfl
  (xv_iconst dX6_holds_59 rfl (inRd rfl)
  (xv_istore_n dX6_holds_60 rfl (Nat.le_of_ble_eq_true rfl)
  (xv_iinc dX6_holds_61 (Nat.le_of_ble_eq_true rfl)
  (xv_goto dX6_holds_64 rfl (fun _ _ _ _ h => h)))))
  (xv_iconst dX6_holds_55 rfl (inRd rfl)
  (xv_goto dX6_holds_56 rfl (xv_istore_n dX6_holds_60 rfl (Nat.le_of_ble_eq_true rfl)
  (xv_iinc dX6_holds_61 (Nat.le_of_ble_eq_true rfl)
  (xv_goto dX6_holds_64 rfl (fun _ _ _ _ h => h)))))))))))))))))))))))))))))))))))))) l st S I h
def tr_X6_trackOf_0 (d : Nat) (Rq : SmQ) (l : SmL) (st : List SmV) (S : SmS) (I : SmI) : Prop :=
  im_ic 0 l st S I fun l st S I =>
  im_istore 3 l st S I fun l st S I =>
  SW mi_X6_trackOf 2 d Rq l st S I
theorem rv_X6_trackOf_0 {d : Nat} {Rq : SmQ} {l : SmL} {st : List SmV} {S : SmS} {I : SmI} (h : tr_X6_trackOf_0 d Rq l st S I) : SW mi_X6_trackOf 0 d Rq l st S I :=
  (show SmW mi_X6_trackOf 0 d Rq (tr_X6_trackOf_0 d Rq) from
  (xv_iconst dX6_trackOf_0 rfl (inRd rfl)
  (xv_istore_n dX6_trackOf_1 rfl (Nat.le_of_ble_eq_true rfl)
  (fun _ _ _ _ h => h)))) l st S I h
def tr_X6_trackOf_2 (d : Nat) (Rq : SmQ) (l : SmL) (st : List SmV) (S : SmS) (I : SmI) : Prop :=
  im_iload 3 l st S I fun l st S I =>
  im_aload 0 l st S I fun l st S I =>
  im_iload 1 l st S I fun l st S I =>
  im_ic 0 l st S I fun l st S I =>
  im_p_X6_ofPlace d l st S I fun l st S I =>
  im_cge l st S I (fun l st S I =>
  im_ic (-4) l st S I fun l st S I =>
  im_ireturn Rq l st S I) (fun l st S I =>
  im_ic 0 l st S I fun l st S I =>
  im_istore 4 l st S I fun l st S I =>
  im_ic 0 l st S I fun l st S I =>
  im_istore 5 l st S I fun l st S I =>
  SW mi_X6_trackOf 18 d Rq l st S I)
theorem rv_X6_trackOf_2 {d : Nat} {Rq : SmQ} {l : SmL} {st : List SmV} {S : SmS} {I : SmI} (h : tr_X6_trackOf_2 d Rq l st S I) : SW mi_X6_trackOf 2 d Rq l st S I :=
  (show SmW mi_X6_trackOf 2 d Rq (tr_X6_trackOf_2 d Rq) from
  (xv_iload_n dX6_trackOf_2 rfl
  (xv_aload_n dX6_trackOf_3 rfl
  (xv_iload_n dX6_trackOf_4 rfl
  (xv_iconst dX6_trackOf_5 rfl (inRd rfl)
  (xv_p_X6_ofPlace dX6_trackOf_6 (lw_V q2041 q2043 qs67 q117 q2044)
  (xv_cge dX6_trackOf_9 rfl
  (xv_bipush dX6_trackOf_105 rfl (inRd rfl)
  (xv_ireturn dX6_trackOf_107 rfl))
  (xv_iconst dX6_trackOf_12 rfl (inRd rfl)
  (xv_istore dX6_trackOf_13 (Nat.le_of_ble_eq_true rfl)
  (xv_iconst dX6_trackOf_15 rfl (inRd rfl)
  (xv_istore dX6_trackOf_16 (Nat.le_of_ble_eq_true rfl)
  (fun _ _ _ _ h => h)))))))))))) l st S I h
def tr_X6_trackOf_18 (d : Nat) (Rq : SmQ) (l : SmL) (st : List SmV) (S : SmS) (I : SmI) : Prop :=
  im_iload 5 l st S I fun l st S I =>
  im_aload 0 l st S I fun l st S I =>
  im_iload 1 l st S I fun l st S I =>
  im_ic 0 l st S I fun l st S I =>
  im_p_X6_ofPlace d l st S I fun l st S I =>
  im_cge l st S I (fun l st S I =>
  im_iload 4 l st S I fun l st S I =>
  im_iload 2 l st S I fun l st S I =>
  im_cne l st S I (fun l st S I =>
  im_iinc 3 1 l st S I fun l st S I =>
  SW mi_X6_trackOf 2 d Rq l st S I) (fun l st S I =>
  im_aload 0 l st S I fun l st S I =>
  im_iload 1 l st S I fun l st S I =>
  im_ic 1 l st S I fun l st S I =>
  im_iload 3 l st S I fun l st S I =>
  im_iadd l st S I fun l st S I =>
  im_p_X6_ofPlace d l st S I fun l st S I =>
  im_ireturn Rq l st S I)) (fun l st S I =>
  im_aload 0 l st S I fun l st S I =>
  im_iload 1 l st S I fun l st S I =>
  im_ic 1 l st S I fun l st S I =>
  im_iload 5 l st S I fun l st S I =>
  im_iadd l st S I fun l st S I =>
  im_p_X6_ofPlace d l st S I fun l st S I =>
  im_aload 0 l st S I fun l st S I =>
  im_iload 1 l st S I fun l st S I =>
  im_ic 1 l st S I fun l st S I =>
  im_iload 3 l st S I fun l st S I =>
  im_iadd l st S I fun l st S I =>
  im_p_X6_ofPlace d l st S I fun l st S I =>
  im_isub l st S I fun l st S I =>
  im_istore 6 l st S I fun l st S I =>
  im_iload 4 l st S I fun l st S I =>
  im_iload 6 l st S I fun l st S I =>
  im_zgt l st S I (fun l st S I =>
  SW mi_X6_trackOf 67 d Rq l st S I) (fun l st S I =>
  im_iload 6 l st S I fun l st S I =>
  im_zne l st S I (fun l st S I =>
  im_ic 0 l st S I fun l st S I =>
  im_p_X6_flag d l st S I fun l st S I =>
  im_iadd l st S I fun l st S I =>
  im_istore 4 l st S I fun l st S I =>
  im_iinc 5 1 l st S I fun l st S I =>
  SW mi_X6_trackOf 18 d Rq l st S I) (fun l st S I =>
  im_iload 5 l st S I fun l st S I =>
  im_iload 3 l st S I fun l st S I =>
  im_cge l st S I (fun l st S I =>
  im_ic 0 l st S I fun l st S I =>
  im_p_X6_flag d l st S I fun l st S I =>
  im_iadd l st S I fun l st S I =>
  im_istore 4 l st S I fun l st S I =>
  im_iinc 5 1 l st S I fun l st S I =>
  SW mi_X6_trackOf 18 d Rq l st S I) (fun l st S I =>
  SW mi_X6_trackOf 67 d Rq l st S I))))
theorem rv_X6_trackOf_18 {d : Nat} {Rq : SmQ} {l : SmL} {st : List SmV} {S : SmS} {I : SmI} (h : tr_X6_trackOf_18 d Rq l st S I) : SW mi_X6_trackOf 18 d Rq l st S I :=
  (show SmW mi_X6_trackOf 18 d Rq (tr_X6_trackOf_18 d Rq) from
  (xv_iload dX6_trackOf_18
  (xv_aload_n dX6_trackOf_20 rfl
  (xv_iload_n dX6_trackOf_21 rfl
  (xv_iconst dX6_trackOf_22 rfl (inRd rfl)
  (xv_p_X6_ofPlace dX6_trackOf_23 (lw_V q2041 q2043 qs67 q117 q2044)
  (xv_cge dX6_trackOf_26 rfl
  (xv_iload dX6_trackOf_84
  (xv_iload_n dX6_trackOf_86 rfl
  (xv_cne dX6_trackOf_87 rfl
  (xv_iinc dX6_trackOf_99 (Nat.le_of_ble_eq_true rfl)
  (xv_goto dX6_trackOf_102 rfl (fun _ _ _ _ h => h)))
  (xv_aload_n dX6_trackOf_90 rfl
  (xv_iload_n dX6_trackOf_91 rfl
  (xv_iconst dX6_trackOf_92 rfl (inRd rfl)
  (xv_iload_n dX6_trackOf_93 rfl
  (xv_iadd dX6_trackOf_94
  (xv_p_X6_ofPlace dX6_trackOf_95 (lw_V q2041 q2043 qs67 q117 q2044)
  (xv_ireturn dX6_trackOf_98 rfl))))))))))
  (xv_aload_n dX6_trackOf_29 rfl
  (xv_iload_n dX6_trackOf_30 rfl
  (xv_iconst dX6_trackOf_31 rfl (inRd rfl)
  (xv_iload dX6_trackOf_32
  (xv_iadd dX6_trackOf_34
  (xv_p_X6_ofPlace dX6_trackOf_35 (lw_V q2041 q2043 qs67 q117 q2044)
  (xv_aload_n dX6_trackOf_38 rfl
  (xv_iload_n dX6_trackOf_39 rfl
  (xv_iconst dX6_trackOf_40 rfl (inRd rfl)
  (xv_iload_n dX6_trackOf_41 rfl
  (xv_iadd dX6_trackOf_42
  (xv_p_X6_ofPlace dX6_trackOf_43 (lw_V q2041 q2043 qs67 q117 q2044)
  (xv_isub dX6_trackOf_46
  (xv_istore dX6_trackOf_47 (Nat.le_of_ble_eq_true rfl)
  (xv_iload dX6_trackOf_49
  (xv_iload dX6_trackOf_51
  (xv_zgt dX6_trackOf_53 rfl
  (fun _ _ _ _ h => h)
  (xv_iload dX6_trackOf_56
  (xv_zne dX6_trackOf_58 rfl
  (xv_iconst dX6_trackOf_71 rfl (inRd rfl)
  (xv_p_X6_flag dX6_trackOf_72 (lw_S q2034 q2035 q117 q2036)
  (xv_iadd dX6_trackOf_75
  (xv_istore dX6_trackOf_76 (Nat.le_of_ble_eq_true rfl)
  (xv_iinc dX6_trackOf_78 (Nat.le_of_ble_eq_true rfl)
  (xv_goto dX6_trackOf_81 rfl (fun _ _ _ _ h => h)))))))
  (xv_iload dX6_trackOf_61
  (xv_iload_n dX6_trackOf_63 rfl
  (xv_cge dX6_trackOf_64 rfl
  (xv_iconst dX6_trackOf_71 rfl (inRd rfl)
  (xv_p_X6_flag dX6_trackOf_72 (lw_S q2034 q2035 q117 q2036)
  (xv_iadd dX6_trackOf_75
  (xv_istore dX6_trackOf_76 (Nat.le_of_ble_eq_true rfl)
  (xv_iinc dX6_trackOf_78 (Nat.le_of_ble_eq_true rfl)
  (xv_goto dX6_trackOf_81 rfl (fun _ _ _ _ h => h)))))))
  (fun _ _ _ _ h => h)))))))))))))))))))))))))))))) l st S I h
def tr_X6_trackOf_67 (d : Nat) (Rq : SmQ) (l : SmL) (st : List SmV) (S : SmS) (I : SmI) : Prop :=
  im_ic 1 l st S I fun l st S I =>
  im_p_X6_flag d l st S I fun l st S I =>
  im_iadd l st S I fun l st S I =>
  im_istore 4 l st S I fun l st S I =>
  im_iinc 5 1 l st S I fun l st S I =>
  SW mi_X6_trackOf 18 d Rq l st S I
theorem rv_X6_trackOf_67 {d : Nat} {Rq : SmQ} {l : SmL} {st : List SmV} {S : SmS} {I : SmI} (h : tr_X6_trackOf_67 d Rq l st S I) : SW mi_X6_trackOf 67 d Rq l st S I :=
  (show SmW mi_X6_trackOf 67 d Rq (tr_X6_trackOf_67 d Rq) from
  (xv_iconst dX6_trackOf_67 rfl (inRd rfl)
  (xv_goto dX6_trackOf_68 rfl (xv_p_X6_flag dX6_trackOf_72 (lw_S q2034 q2035 q117 q2036)
  (xv_iadd dX6_trackOf_75
  (xv_istore dX6_trackOf_76 (Nat.le_of_ble_eq_true rfl)
  (xv_iinc dX6_trackOf_78 (Nat.le_of_ble_eq_true rfl)
  (xv_goto dX6_trackOf_81 rfl (fun _ _ _ _ h => h))))))))) l st S I h
def tr_X6_trainsAt_0 (d : Nat) (Rq : SmQ) (l : SmL) (st : List SmV) (S : SmS) (I : SmI) : Prop :=
  im_ic 0 l st S I fun l st S I =>
  im_istore 2 l st S I fun l st S I =>
  im_ic 0 l st S I fun l st S I =>
  im_istore 3 l st S I fun l st S I =>
  SW mi_X6_trainsAt 4 d Rq l st S I
theorem rv_X6_trainsAt_0 {d : Nat} {Rq : SmQ} {l : SmL} {st : List SmV} {S : SmS} {I : SmI} (h : tr_X6_trainsAt_0 d Rq l st S I) : SW mi_X6_trainsAt 0 d Rq l st S I :=
  (show SmW mi_X6_trainsAt 0 d Rq (tr_X6_trainsAt_0 d Rq) from
  (xv_iconst dX6_trainsAt_0 rfl (inRd rfl)
  (xv_istore_n dX6_trainsAt_1 rfl (Nat.le_of_ble_eq_true rfl)
  (xv_iconst dX6_trainsAt_2 rfl (inRd rfl)
  (xv_istore_n dX6_trainsAt_3 rfl (Nat.le_of_ble_eq_true rfl)
  (fun _ _ _ _ h => h)))))) l st S I h
def tr_X6_trainsAt_4 (d : Nat) (Rq : SmQ) (l : SmL) (st : List SmV) (S : SmS) (I : SmI) : Prop :=
  im_iload 3 l st S I fun l st S I =>
  im_aload 0 l st S I fun l st S I =>
  im_getR 11 0 l st S I fun l st S I =>
  im_ic 1 l st S I fun l st S I =>
  im_ald 100 l st S I fun l st S I =>
  im_cge l st S I (fun l st S I =>
  im_iload 2 l st S I fun l st S I =>
  im_ireturn Rq l st S I) (fun l st S I =>
  im_iload 2 l st S I fun l st S I =>
  im_aload 0 l st S I fun l st S I =>
  im_iload 3 l st S I fun l st S I =>
  im_p_X6_isDoneIn d l st S I fun l st S I =>
  im_zne l st S I (fun l st S I =>
  im_ic 0 l st S I fun l st S I =>
  im_p_X6_flag d l st S I fun l st S I =>
  im_iadd l st S I fun l st S I =>
  im_istore 2 l st S I fun l st S I =>
  im_iinc 3 1 l st S I fun l st S I =>
  SW mi_X6_trainsAt 4 d Rq l st S I) (fun l st S I =>
  im_aload 0 l st S I fun l st S I =>
  im_iload 3 l st S I fun l st S I =>
  im_ic 3 l st S I fun l st S I =>
  im_p_X6_ofTrain d l st S I fun l st S I =>
  im_iload 1 l st S I fun l st S I =>
  im_cne l st S I (fun l st S I =>
  im_ic 0 l st S I fun l st S I =>
  im_p_X6_flag d l st S I fun l st S I =>
  im_iadd l st S I fun l st S I =>
  im_istore 2 l st S I fun l st S I =>
  im_iinc 3 1 l st S I fun l st S I =>
  SW mi_X6_trainsAt 4 d Rq l st S I) (fun l st S I =>
  im_ic 1 l st S I fun l st S I =>
  im_p_X6_flag d l st S I fun l st S I =>
  im_iadd l st S I fun l st S I =>
  im_istore 2 l st S I fun l st S I =>
  im_iinc 3 1 l st S I fun l st S I =>
  SW mi_X6_trainsAt 4 d Rq l st S I)))
theorem rv_X6_trainsAt_4 {d : Nat} {Rq : SmQ} {l : SmL} {st : List SmV} {S : SmS} {I : SmI} (h : tr_X6_trainsAt_4 d Rq l st S I) : SW mi_X6_trainsAt 4 d Rq l st S I :=
  (show SmW mi_X6_trainsAt 4 d Rq (tr_X6_trainsAt_4 d Rq) from
  (xv_iload_n dX6_trainsAt_4 rfl
  (xv_aload_n dX6_trainsAt_5 rfl
  (xv_getR (k := 0) dX6_trainsAt_6 cl_11 tg_11 in_X6 (Nat.le_of_ble_eq_true rfl) rfl q1862
  (xv_iconst dX6_trainsAt_9 rfl (inRd rfl)
  (xv_iald dX6_trainsAt_10
  (xv_cge dX6_trainsAt_11 rfl
  (xv_iload_n dX6_trainsAt_49 rfl
  (xv_ireturn dX6_trainsAt_50 rfl))
  (xv_iload_n dX6_trainsAt_14 rfl
  (xv_aload_n dX6_trainsAt_15 rfl
  (xv_iload_n dX6_trainsAt_16 rfl
  (xv_p_X6_isDoneIn dX6_trainsAt_17 (lw_V q2015 q2017 qs62 q117 q2018)
  (xv_zne dX6_trainsAt_20 rfl
  (xv_iconst dX6_trainsAt_37 rfl (inRd rfl)
  (xv_p_X6_flag dX6_trainsAt_38 (lw_S q2034 q2035 q117 q2036)
  (xv_iadd dX6_trainsAt_41
  (xv_istore_n dX6_trainsAt_42 rfl (Nat.le_of_ble_eq_true rfl)
  (xv_iinc dX6_trainsAt_43 (Nat.le_of_ble_eq_true rfl)
  (xv_goto dX6_trainsAt_46 rfl (fun _ _ _ _ h => h)))))))
  (xv_aload_n dX6_trainsAt_23 rfl
  (xv_iload_n dX6_trainsAt_24 rfl
  (xv_iconst dX6_trainsAt_25 rfl (inRd rfl)
  (xv_p_X6_ofTrain dX6_trainsAt_26 (lw_V q2003 q2005 qs59 q117 q2006)
  (xv_iload_n dX6_trainsAt_29 rfl
  (xv_cne dX6_trainsAt_30 rfl
  (xv_iconst dX6_trainsAt_37 rfl (inRd rfl)
  (xv_p_X6_flag dX6_trainsAt_38 (lw_S q2034 q2035 q117 q2036)
  (xv_iadd dX6_trainsAt_41
  (xv_istore_n dX6_trainsAt_42 rfl (Nat.le_of_ble_eq_true rfl)
  (xv_iinc dX6_trainsAt_43 (Nat.le_of_ble_eq_true rfl)
  (xv_goto dX6_trainsAt_46 rfl (fun _ _ _ _ h => h)))))))
  (xv_iconst dX6_trainsAt_33 rfl (inRd rfl)
  (xv_goto dX6_trainsAt_34 rfl (xv_p_X6_flag dX6_trainsAt_38 (lw_S q2034 q2035 q117 q2036)
  (xv_iadd dX6_trainsAt_41
  (xv_istore_n dX6_trainsAt_42 rfl (Nat.le_of_ble_eq_true rfl)
  (xv_iinc dX6_trainsAt_43 (Nat.le_of_ble_eq_true rfl)
  (xv_goto dX6_trainsAt_46 rfl (fun _ _ _ _ h => h)))))))))))))))))))))))))) l st S I h
def tr_X6_minutesStill_0 (d : Nat) (Rq : SmQ) (l : SmL) (st : List SmV) (S : SmS) (I : SmI) : Prop :=
  im_ic 0 l st S I fun l st S I =>
  im_istore 2 l st S I fun l st S I =>
  im_aload 0 l st S I fun l st S I =>
  im_iload 1 l st S I fun l st S I =>
  im_ic 3 l st S I fun l st S I =>
  im_p_X6_ofTrain d l st S I fun l st S I =>
  im_istore 3 l st S I fun l st S I =>
  im_ic 0 l st S I fun l st S I =>
  im_istore 4 l st S I fun l st S I =>
  SW mi_X6_minutesStill 12 d Rq l st S I
theorem rv_X6_minutesStill_0 {d : Nat} {Rq : SmQ} {l : SmL} {st : List SmV} {S : SmS} {I : SmI} (h : tr_X6_minutesStill_0 d Rq l st S I) : SW mi_X6_minutesStill 0 d Rq l st S I :=
  (show SmW mi_X6_minutesStill 0 d Rq (tr_X6_minutesStill_0 d Rq) from
  (xv_iconst dX6_minutesStill_0 rfl (inRd rfl)
  (xv_istore_n dX6_minutesStill_1 rfl (Nat.le_of_ble_eq_true rfl)
  (xv_aload_n dX6_minutesStill_2 rfl
  (xv_iload_n dX6_minutesStill_3 rfl
  (xv_iconst dX6_minutesStill_4 rfl (inRd rfl)
  (xv_p_X6_ofTrain dX6_minutesStill_5 (lw_V q2003 q2005 qs59 q117 q2006)
  (xv_istore_n dX6_minutesStill_8 rfl (Nat.le_of_ble_eq_true rfl)
  (xv_iconst dX6_minutesStill_9 rfl (inRd rfl)
  (xv_istore dX6_minutesStill_10 (Nat.le_of_ble_eq_true rfl)
  (fun _ _ _ _ h => h))))))))))) l st S I h
def tr_X6_minutesStill_12 (d : Nat) (Rq : SmQ) (l : SmL) (st : List SmV) (S : SmS) (I : SmI) : Prop :=
  im_iload 4 l st S I fun l st S I =>
  im_ic 6 l st S I fun l st S I =>
  im_cge l st S I (fun l st S I =>
  im_iload 2 l st S I fun l st S I =>
  im_ireturn Rq l st S I) (fun l st S I =>
  im_aload 0 l st S I fun l st S I =>
  im_iload 1 l st S I fun l st S I =>
  im_ic 4 l st S I fun l st S I =>
  im_p_X6_ofTrain d l st S I fun l st S I =>
  im_ic 2 l st S I fun l st S I =>
  im_ceq l st S I (fun l st S I =>
  im_iload 2 l st S I fun l st S I =>
  im_ireturn Rq l st S I) (fun l st S I =>
  im_iload 3 l st S I fun l st S I =>
  im_aload 0 l st S I fun l st S I =>
  im_iload 1 l st S I fun l st S I =>
  im_ic 1 l st S I fun l st S I =>
  im_p_X6_ofTrain d l st S I fun l st S I =>
  im_ceq l st S I (fun l st S I =>
  im_iload 2 l st S I fun l st S I =>
  im_ireturn Rq l st S I) (fun l st S I =>
  im_aload 0 l st S I fun l st S I =>
  im_iload 1 l st S I fun l st S I =>
  im_iload 3 l st S I fun l st S I =>
  im_p_X6_nextFrom d l st S I fun l st S I =>
  im_istore 5 l st S I fun l st S I =>
  im_iload 2 l st S I fun l st S I =>
  im_aload 0 l st S I fun l st S I =>
  im_iload 3 l st S I fun l st S I =>
  im_iload 5 l st S I fun l st S I =>
  im_p_X6_minutesOf d l st S I fun l st S I =>
  im_iadd l st S I fun l st S I =>
  im_istore 2 l st S I fun l st S I =>
  im_iload 5 l st S I fun l st S I =>
  im_istore 3 l st S I fun l st S I =>
  im_iinc 4 1 l st S I fun l st S I =>
  SW mi_X6_minutesStill 12 d Rq l st S I)))
theorem rv_X6_minutesStill_12 {d : Nat} {Rq : SmQ} {l : SmL} {st : List SmV} {S : SmS} {I : SmI} (h : tr_X6_minutesStill_12 d Rq l st S I) : SW mi_X6_minutesStill 12 d Rq l st S I :=
  (show SmW mi_X6_minutesStill 12 d Rq (tr_X6_minutesStill_12 d Rq) from
  (xv_iload dX6_minutesStill_12
  (xv_bipush dX6_minutesStill_14 rfl (inRd rfl)
  (xv_cge dX6_minutesStill_16 rfl
  (xv_iload_n dX6_minutesStill_66 rfl
  (xv_ireturn dX6_minutesStill_67 rfl))
  (xv_aload_n dX6_minutesStill_19 rfl
  (xv_iload_n dX6_minutesStill_20 rfl
  (xv_iconst dX6_minutesStill_21 rfl (inRd rfl)
  (xv_p_X6_ofTrain dX6_minutesStill_22 (lw_V q2003 q2005 qs59 q117 q2006)
  (xv_iconst dX6_minutesStill_25 rfl (inRd rfl)
  (xv_ceq dX6_minutesStill_26 rfl
  (xv_iload_n dX6_minutesStill_66 rfl
  (xv_ireturn dX6_minutesStill_67 rfl))
  (xv_iload_n dX6_minutesStill_29 rfl
  (xv_aload_n dX6_minutesStill_30 rfl
  (xv_iload_n dX6_minutesStill_31 rfl
  (xv_iconst dX6_minutesStill_32 rfl (inRd rfl)
  (xv_p_X6_ofTrain dX6_minutesStill_33 (lw_V q2003 q2005 qs59 q117 q2006)
  (xv_ceq dX6_minutesStill_36 rfl
  (xv_iload_n dX6_minutesStill_66 rfl
  (xv_ireturn dX6_minutesStill_67 rfl))
  (xv_aload_n dX6_minutesStill_39 rfl
  (xv_iload_n dX6_minutesStill_40 rfl
  (xv_iload_n dX6_minutesStill_41 rfl
  (xv_p_X6_nextFrom dX6_minutesStill_42 (lw_V q2057 q2059 qs71 q117 q2060)
  (xv_istore dX6_minutesStill_45 (Nat.le_of_ble_eq_true rfl)
  (xv_iload_n dX6_minutesStill_47 rfl
  (xv_aload_n dX6_minutesStill_48 rfl
  (xv_iload_n dX6_minutesStill_49 rfl
  (xv_iload dX6_minutesStill_50
  (xv_p_X6_minutesOf dX6_minutesStill_52 (lw_V q2141 q2143 qs88 q117 q2144)
  (xv_iadd dX6_minutesStill_55
  (xv_istore_n dX6_minutesStill_56 rfl (Nat.le_of_ble_eq_true rfl)
  (xv_iload dX6_minutesStill_57
  (xv_istore_n dX6_minutesStill_59 rfl (Nat.le_of_ble_eq_true rfl)
  (xv_iinc dX6_minutesStill_60 (Nat.le_of_ble_eq_true rfl)
  (xv_goto dX6_minutesStill_63 rfl (fun _ _ _ _ h => h))))))))))))))))))))))))))))))))) l st S I h
def tr_X6_runsBetween_0 (d : Nat) (Rq : SmQ) (l : SmL) (st : List SmV) (S : SmS) (I : SmI) : Prop :=
  im_ic 0 l st S I fun l st S I =>
  im_istore 3 l st S I fun l st S I =>
  SW mi_X6_runsBetween 2 d Rq l st S I
theorem rv_X6_runsBetween_0 {d : Nat} {Rq : SmQ} {l : SmL} {st : List SmV} {S : SmS} {I : SmI} (h : tr_X6_runsBetween_0 d Rq l st S I) : SW mi_X6_runsBetween 0 d Rq l st S I :=
  (show SmW mi_X6_runsBetween 0 d Rq (tr_X6_runsBetween_0 d Rq) from
  (xv_iconst dX6_runsBetween_0 rfl (inRd rfl)
  (xv_istore_n dX6_runsBetween_1 rfl (Nat.le_of_ble_eq_true rfl)
  (fun _ _ _ _ h => h)))) l st S I h
def tr_X6_runsBetween_2 (d : Nat) (Rq : SmQ) (l : SmL) (st : List SmV) (S : SmS) (I : SmI) : Prop :=
  im_iload 3 l st S I fun l st S I =>
  im_aload 0 l st S I fun l st S I =>
  im_getR 11 0 l st S I fun l st S I =>
  im_ic 1 l st S I fun l st S I =>
  im_ald 100 l st S I fun l st S I =>
  im_cge l st S I (fun l st S I =>
  im_ic (-4) l st S I fun l st S I =>
  im_ireturn Rq l st S I) (fun l st S I =>
  im_aload 0 l st S I fun l st S I =>
  im_iload 3 l st S I fun l st S I =>
  im_ic 4 l st S I fun l st S I =>
  im_p_X6_ofTrain d l st S I fun l st S I =>
  im_ic 1 l st S I fun l st S I =>
  im_cne l st S I (fun l st S I =>
  im_iinc 3 1 l st S I fun l st S I =>
  SW mi_X6_runsBetween 2 d Rq l st S I) (fun l st S I =>
  im_aload 0 l st S I fun l st S I =>
  im_iload 3 l st S I fun l st S I =>
  im_p_X6_leftBy d l st S I fun l st S I =>
  im_istore 4 l st S I fun l st S I =>
  im_iload 4 l st S I fun l st S I =>
  im_iload 1 l st S I fun l st S I =>
  im_cne l st S I (fun l st S I =>
  SW mi_X6_runsBetween 45 d Rq l st S I) (fun l st S I =>
  im_aload 0 l st S I fun l st S I =>
  im_iload 3 l st S I fun l st S I =>
  im_ic 3 l st S I fun l st S I =>
  im_p_X6_ofTrain d l st S I fun l st S I =>
  im_iload 2 l st S I fun l st S I =>
  im_ceq l st S I (fun l st S I =>
  im_iload 3 l st S I fun l st S I =>
  im_ireturn Rq l st S I) (fun l st S I =>
  SW mi_X6_runsBetween 45 d Rq l st S I))))
theorem rv_X6_runsBetween_2 {d : Nat} {Rq : SmQ} {l : SmL} {st : List SmV} {S : SmS} {I : SmI} (h : tr_X6_runsBetween_2 d Rq l st S I) : SW mi_X6_runsBetween 2 d Rq l st S I :=
  (show SmW mi_X6_runsBetween 2 d Rq (tr_X6_runsBetween_2 d Rq) from
  (xv_iload_n dX6_runsBetween_2 rfl
  (xv_aload_n dX6_runsBetween_3 rfl
  (xv_getR (k := 0) dX6_runsBetween_4 cl_11 tg_11 in_X6 (Nat.le_of_ble_eq_true rfl) rfl q1862
  (xv_iconst dX6_runsBetween_7 rfl (inRd rfl)
  (xv_iald dX6_runsBetween_8
  (xv_cge dX6_runsBetween_9 rfl
  (xv_bipush dX6_runsBetween_69 rfl (inRd rfl)
  (xv_ireturn dX6_runsBetween_71 rfl))
  (xv_aload_n dX6_runsBetween_12 rfl
  (xv_iload_n dX6_runsBetween_13 rfl
  (xv_iconst dX6_runsBetween_14 rfl (inRd rfl)
  (xv_p_X6_ofTrain dX6_runsBetween_15 (lw_V q2003 q2005 qs59 q117 q2006)
  (xv_iconst dX6_runsBetween_18 rfl (inRd rfl)
  (xv_cne dX6_runsBetween_19 rfl
  (xv_iinc dX6_runsBetween_63 (Nat.le_of_ble_eq_true rfl)
  (xv_goto dX6_runsBetween_66 rfl (fun _ _ _ _ h => h)))
  (xv_aload_n dX6_runsBetween_22 rfl
  (xv_iload_n dX6_runsBetween_23 rfl
  (xv_p_X6_leftBy dX6_runsBetween_24 (lw_V q2109 q2111 qs82 q117 q2112)
  (xv_istore dX6_runsBetween_27 (Nat.le_of_ble_eq_true rfl)
  (xv_iload dX6_runsBetween_29
  (xv_iload_n dX6_runsBetween_31 rfl
  (xv_cne dX6_runsBetween_32 rfl
  (fun _ _ _ _ h => h)
  (xv_aload_n dX6_runsBetween_35 rfl
  (xv_iload_n dX6_runsBetween_36 rfl
  (xv_iconst dX6_runsBetween_37 rfl (inRd rfl)
  (xv_p_X6_ofTrain dX6_runsBetween_38 (lw_V q2003 q2005 qs59 q117 q2006)
  (xv_iload_n dX6_runsBetween_41 rfl
  (xv_ceq dX6_runsBetween_42 rfl
  (xv_iload_n dX6_runsBetween_61 rfl
  (xv_ireturn dX6_runsBetween_62 rfl))
  (fun _ _ _ _ h => h))))))))))))))))))))))))))) l st S I h
def tr_X6_runsBetween_45 (d : Nat) (Rq : SmQ) (l : SmL) (st : List SmV) (S : SmS) (I : SmI) : Prop :=
  im_iload 4 l st S I fun l st S I =>
  im_iload 2 l st S I fun l st S I =>
  im_cne l st S I (fun l st S I =>
  im_iinc 3 1 l st S I fun l st S I =>
  SW mi_X6_runsBetween 2 d Rq l st S I) (fun l st S I =>
  im_aload 0 l st S I fun l st S I =>
  im_iload 3 l st S I fun l st S I =>
  im_ic 3 l st S I fun l st S I =>
  im_p_X6_ofTrain d l st S I fun l st S I =>
  im_iload 1 l st S I fun l st S I =>
  im_cne l st S I (fun l st S I =>
  im_iinc 3 1 l st S I fun l st S I =>
  SW mi_X6_runsBetween 2 d Rq l st S I) (fun l st S I =>
  im_iload 3 l st S I fun l st S I =>
  im_ireturn Rq l st S I))
theorem rv_X6_runsBetween_45 {d : Nat} {Rq : SmQ} {l : SmL} {st : List SmV} {S : SmS} {I : SmI} (h : tr_X6_runsBetween_45 d Rq l st S I) : SW mi_X6_runsBetween 45 d Rq l st S I :=
  (show SmW mi_X6_runsBetween 45 d Rq (tr_X6_runsBetween_45 d Rq) from
  (xv_iload dX6_runsBetween_45
  (xv_iload_n dX6_runsBetween_47 rfl
  (xv_cne dX6_runsBetween_48 rfl
  (xv_iinc dX6_runsBetween_63 (Nat.le_of_ble_eq_true rfl)
  (xv_goto dX6_runsBetween_66 rfl (fun _ _ _ _ h => h)))
  (xv_aload_n dX6_runsBetween_51 rfl
  (xv_iload_n dX6_runsBetween_52 rfl
  (xv_iconst dX6_runsBetween_53 rfl (inRd rfl)
  (xv_p_X6_ofTrain dX6_runsBetween_54 (lw_V q2003 q2005 qs59 q117 q2006)
  (xv_iload_n dX6_runsBetween_57 rfl
  (xv_cne dX6_runsBetween_58 rfl
  (xv_iinc dX6_runsBetween_63 (Nat.le_of_ble_eq_true rfl)
  (xv_goto dX6_runsBetween_66 rfl (fun _ _ _ _ h => h)))
  (xv_iload_n dX6_runsBetween_61 rfl
  (xv_ireturn dX6_runsBetween_62 rfl)))))))))))) l st S I h
def tr_X6_isGood_0 (d : Nat) (Rq : SmQ) (l : SmL) (st : List SmV) (S : SmS) (I : SmI) : Prop :=
  im_aload 0 l st S I fun l st S I =>
  im_iload 1 l st S I fun l st S I =>
  im_p_X6_isPlace d l st S I fun l st S I =>
  im_zeq l st S I (fun l st S I =>
  im_ic 0 l st S I fun l st S I =>
  im_zreturn Rq l st S I) (fun l st S I =>
  im_aload 0 l st S I fun l st S I =>
  im_iload 2 l st S I fun l st S I =>
  im_p_X6_isPlace d l st S I fun l st S I =>
  im_zeq l st S I (fun l st S I =>
  im_ic 0 l st S I fun l st S I =>
  im_zreturn Rq l st S I) (fun l st S I =>
  im_iload 1 l st S I fun l st S I =>
  im_iload 2 l st S I fun l st S I =>
  im_ceq l st S I (fun l st S I =>
  im_ic 0 l st S I fun l st S I =>
  im_zreturn Rq l st S I) (fun l st S I =>
  im_iload 3 l st S I fun l st S I =>
  im_i2l l st S I fun l st S I =>
  im_lc 1 l st S I fun l st S I =>
  im_lc 20 l st S I fun l st S I =>
  im_p_X6_in d l st S I fun l st S I =>
  im_zeq l st S I (fun l st S I =>
  im_ic 0 l st S I fun l st S I =>
  im_zreturn Rq l st S I) (fun l st S I =>
  im_ic 1 l st S I fun l st S I =>
  im_zreturn Rq l st S I))))
theorem rv_X6_isGood_0 {d : Nat} {Rq : SmQ} {l : SmL} {st : List SmV} {S : SmS} {I : SmI} (h : tr_X6_isGood_0 d Rq l st S I) : SW mi_X6_isGood 0 d Rq l st S I :=
  (show SmW mi_X6_isGood 0 d Rq (tr_X6_isGood_0 d Rq) from
  (xv_aload_n dX6_isGood_0 rfl
  (xv_iload_n dX6_isGood_1 rfl
  (xv_p_X6_isPlace dX6_isGood_2 (lw_V q2117 q2119 qs83 q117 q2120)
  (xv_zeq dX6_isGood_5 rfl
  (xv_iconst dX6_isGood_37 rfl (inRd rfl)
  (xv_zreturn dX6_isGood_38 rfl))
  (xv_aload_n dX6_isGood_8 rfl
  (xv_iload_n dX6_isGood_9 rfl
  (xv_p_X6_isPlace dX6_isGood_10 (lw_V q2117 q2119 qs83 q117 q2120)
  (xv_zeq dX6_isGood_13 rfl
  (xv_iconst dX6_isGood_37 rfl (inRd rfl)
  (xv_zreturn dX6_isGood_38 rfl))
  (xv_iload_n dX6_isGood_16 rfl
  (xv_iload_n dX6_isGood_17 rfl
  (xv_ceq dX6_isGood_18 rfl
  (xv_iconst dX6_isGood_37 rfl (inRd rfl)
  (xv_zreturn dX6_isGood_38 rfl))
  (xv_iload_n dX6_isGood_21 rfl
  (xv_i2l dX6_isGood_22
  (xv_lconst dX6_isGood_23 rfl (inR64d rfl)
  (xv_ldc2 dX6_isGood_24 q2239 rfl (inR64d rfl)
  (xv_p_X6_in dX6_isGood_27 (lw_S q1940 q1941 q117 q1942)
  (xv_zeq dX6_isGood_30 rfl
  (xv_iconst dX6_isGood_37 rfl (inRd rfl)
  (xv_zreturn dX6_isGood_38 rfl))
  (xv_iconst dX6_isGood_33 rfl (inRd rfl)
  (xv_goto dX6_isGood_34 rfl (xv_zreturn dX6_isGood_38 rfl))))))))))))))))))))) l st S I h
def tr_X6_lineNow_0 (d : Nat) (Rq : SmQ) (l : SmL) (st : List SmV) (S : SmS) (I : SmI) : Prop :=
  im_aload 0 l st S I fun l st S I =>
  im_ic 5 l st S I fun l st S I =>
  im_ic 0 l st S I fun l st S I =>
  im_ic 112 l st S I fun l st S I =>
  im_ic 108 l st S I fun l st S I =>
  im_ic 97 l st S I fun l st S I =>
  im_p_X6_is d l st S I fun l st S I =>
  im_zeq l st S I (fun l st S I =>
  SW mi_X6_lineNow 32 d Rq l st S I) (fun l st S I =>
  im_aload 0 l st S I fun l st S I =>
  im_ic 5 l st S I fun l st S I =>
  im_ic 2 l st S I fun l st S I =>
  im_ic 97 l st S I fun l st S I =>
  im_ic 99 l st S I fun l st S I =>
  im_ic 101 l st S I fun l st S I =>
  im_p_X6_is d l st S I fun l st S I =>
  im_zeq l st S I (fun l st S I =>
  SW mi_X6_lineNow 32 d Rq l st S I) (fun l st S I =>
  im_ic 0 l st S I fun l st S I =>
  im_ireturn Rq l st S I))
theorem rv_X6_lineNow_0 {d : Nat} {Rq : SmQ} {l : SmL} {st : List SmV} {S : SmS} {I : SmI} (h : tr_X6_lineNow_0 d Rq l st S I) : SW mi_X6_lineNow 0 d Rq l st S I :=
  (show SmW mi_X6_lineNow 0 d Rq (tr_X6_lineNow_0 d Rq) from
  (xv_aload_n dX6_lineNow_0 rfl
  (xv_iconst dX6_lineNow_1 rfl (inRd rfl)
  (xv_iconst dX6_lineNow_2 rfl (inRd rfl)
  (xv_bipush dX6_lineNow_3 rfl (inRd rfl)
  (xv_bipush dX6_lineNow_5 rfl (inRd rfl)
  (xv_bipush dX6_lineNow_7 rfl (inRd rfl)
  (xv_p_X6_is dX6_lineNow_9 (lw_V q1975 q1977 qs52 q117 q1978)
  (xv_zeq dX6_lineNow_12 rfl
  (fun _ _ _ _ h => h)
  (xv_aload_n dX6_lineNow_15 rfl
  (xv_iconst dX6_lineNow_16 rfl (inRd rfl)
  (xv_iconst dX6_lineNow_17 rfl (inRd rfl)
  (xv_bipush dX6_lineNow_18 rfl (inRd rfl)
  (xv_bipush dX6_lineNow_20 rfl (inRd rfl)
  (xv_bipush dX6_lineNow_22 rfl (inRd rfl)
  (xv_p_X6_is dX6_lineNow_24 (lw_V q1975 q1977 qs52 q117 q1978)
  (xv_zeq dX6_lineNow_27 rfl
  (fun _ _ _ _ h => h)
  (xv_iconst dX6_lineNow_30 rfl (inRd rfl)
  (xv_ireturn dX6_lineNow_31 rfl))))))))))))))))))) l st S I h
def tr_X6_lineNow_32 (d : Nat) (Rq : SmQ) (l : SmL) (st : List SmV) (S : SmS) (I : SmI) : Prop :=
  im_aload 0 l st S I fun l st S I =>
  im_ic 5 l st S I fun l st S I =>
  im_ic 0 l st S I fun l st S I =>
  im_ic 116 l st S I fun l st S I =>
  im_ic 114 l st S I fun l st S I =>
  im_ic 97 l st S I fun l st S I =>
  im_p_X6_is d l st S I fun l st S I =>
  im_zeq l st S I (fun l st S I =>
  SW mi_X6_lineNow 64 d Rq l st S I) (fun l st S I =>
  im_aload 0 l st S I fun l st S I =>
  im_ic 5 l st S I fun l st S I =>
  im_ic 2 l st S I fun l st S I =>
  im_ic 97 l st S I fun l st S I =>
  im_ic 105 l st S I fun l st S I =>
  im_ic 110 l st S I fun l st S I =>
  im_p_X6_is d l st S I fun l st S I =>
  im_zeq l st S I (fun l st S I =>
  SW mi_X6_lineNow 64 d Rq l st S I) (fun l st S I =>
  im_ic 2 l st S I fun l st S I =>
  im_ireturn Rq l st S I))
theorem rv_X6_lineNow_32 {d : Nat} {Rq : SmQ} {l : SmL} {st : List SmV} {S : SmS} {I : SmI} (h : tr_X6_lineNow_32 d Rq l st S I) : SW mi_X6_lineNow 32 d Rq l st S I :=
  (show SmW mi_X6_lineNow 32 d Rq (tr_X6_lineNow_32 d Rq) from
  (xv_aload_n dX6_lineNow_32 rfl
  (xv_iconst dX6_lineNow_33 rfl (inRd rfl)
  (xv_iconst dX6_lineNow_34 rfl (inRd rfl)
  (xv_bipush dX6_lineNow_35 rfl (inRd rfl)
  (xv_bipush dX6_lineNow_37 rfl (inRd rfl)
  (xv_bipush dX6_lineNow_39 rfl (inRd rfl)
  (xv_p_X6_is dX6_lineNow_41 (lw_V q1975 q1977 qs52 q117 q1978)
  (xv_zeq dX6_lineNow_44 rfl
  (fun _ _ _ _ h => h)
  (xv_aload_n dX6_lineNow_47 rfl
  (xv_iconst dX6_lineNow_48 rfl (inRd rfl)
  (xv_iconst dX6_lineNow_49 rfl (inRd rfl)
  (xv_bipush dX6_lineNow_50 rfl (inRd rfl)
  (xv_bipush dX6_lineNow_52 rfl (inRd rfl)
  (xv_bipush dX6_lineNow_54 rfl (inRd rfl)
  (xv_p_X6_is dX6_lineNow_56 (lw_V q1975 q1977 qs52 q117 q1978)
  (xv_zeq dX6_lineNow_59 rfl
  (fun _ _ _ _ h => h)
  (xv_iconst dX6_lineNow_62 rfl (inRd rfl)
  (xv_ireturn dX6_lineNow_63 rfl))))))))))))))))))) l st S I h
def tr_X6_lineNow_64 (d : Nat) (Rq : SmQ) (l : SmL) (st : List SmV) (S : SmS) (I : SmI) : Prop :=
  im_aload 0 l st S I fun l st S I =>
  im_ic 7 l st S I fun l st S I =>
  im_ic 0 l st S I fun l st S I =>
  im_ic 115 l st S I fun l st S I =>
  im_ic 101 l st S I fun l st S I =>
  im_ic 99 l st S I fun l st S I =>
  im_p_X6_is d l st S I fun l st S I =>
  im_zeq l st S I (fun l st S I =>
  im_ic (-4) l st S I fun l st S I =>
  im_ireturn Rq l st S I) (fun l st S I =>
  im_aload 0 l st S I fun l st S I =>
  im_ic 7 l st S I fun l st S I =>
  im_ic 2 l st S I fun l st S I =>
  im_ic 99 l st S I fun l st S I =>
  im_ic 116 l st S I fun l st S I =>
  im_ic 105 l st S I fun l st S I =>
  im_p_X6_is d l st S I fun l st S I =>
  im_zeq l st S I (fun l st S I =>
  im_ic (-4) l st S I fun l st S I =>
  im_ireturn Rq l st S I) (fun l st S I =>
  im_aload 0 l st S I fun l st S I =>
  im_ic 7 l st S I fun l st S I =>
  im_ic 4 l st S I fun l st S I =>
  im_ic 105 l st S I fun l st S I =>
  im_ic 111 l st S I fun l st S I =>
  im_ic 110 l st S I fun l st S I =>
  im_p_X6_is d l st S I fun l st S I =>
  im_zeq l st S I (fun l st S I =>
  im_ic (-4) l st S I fun l st S I =>
  im_ireturn Rq l st S I) (fun l st S I =>
  im_ic 1 l st S I fun l st S I =>
  im_ireturn Rq l st S I)))
theorem rv_X6_lineNow_64 {d : Nat} {Rq : SmQ} {l : SmL} {st : List SmV} {S : SmS} {I : SmI} (h : tr_X6_lineNow_64 d Rq l st S I) : SW mi_X6_lineNow 64 d Rq l st S I :=
  (show SmW mi_X6_lineNow 64 d Rq (tr_X6_lineNow_64 d Rq) from
  (xv_aload_n dX6_lineNow_64 rfl
  (xv_bipush dX6_lineNow_65 rfl (inRd rfl)
  (xv_iconst dX6_lineNow_67 rfl (inRd rfl)
  (xv_bipush dX6_lineNow_68 rfl (inRd rfl)
  (xv_bipush dX6_lineNow_70 rfl (inRd rfl)
  (xv_bipush dX6_lineNow_72 rfl (inRd rfl)
  (xv_p_X6_is dX6_lineNow_74 (lw_V q1975 q1977 qs52 q117 q1978)
  (xv_zeq dX6_lineNow_77 rfl
  (xv_bipush dX6_lineNow_116 rfl (inRd rfl)
  (xv_ireturn dX6_lineNow_118 rfl))
  (xv_aload_n dX6_lineNow_80 rfl
  (xv_bipush dX6_lineNow_81 rfl (inRd rfl)
  (xv_iconst dX6_lineNow_83 rfl (inRd rfl)
  (xv_bipush dX6_lineNow_84 rfl (inRd rfl)
  (xv_bipush dX6_lineNow_86 rfl (inRd rfl)
  (xv_bipush dX6_lineNow_88 rfl (inRd rfl)
  (xv_p_X6_is dX6_lineNow_90 (lw_V q1975 q1977 qs52 q117 q1978)
  (xv_zeq dX6_lineNow_93 rfl
  (xv_bipush dX6_lineNow_116 rfl (inRd rfl)
  (xv_ireturn dX6_lineNow_118 rfl))
  (xv_aload_n dX6_lineNow_96 rfl
  (xv_bipush dX6_lineNow_97 rfl (inRd rfl)
  (xv_iconst dX6_lineNow_99 rfl (inRd rfl)
  (xv_bipush dX6_lineNow_100 rfl (inRd rfl)
  (xv_bipush dX6_lineNow_102 rfl (inRd rfl)
  (xv_bipush dX6_lineNow_104 rfl (inRd rfl)
  (xv_p_X6_is dX6_lineNow_106 (lw_V q1975 q1977 qs52 q117 q1978)
  (xv_zeq dX6_lineNow_109 rfl
  (xv_bipush dX6_lineNow_116 rfl (inRd rfl)
  (xv_ireturn dX6_lineNow_118 rfl))
  (xv_iconst dX6_lineNow_112 rfl (inRd rfl)
  (xv_goto dX6_lineNow_113 rfl (xv_ireturn dX6_lineNow_118 rfl)))))))))))))))))))))))))))) l st S I h
