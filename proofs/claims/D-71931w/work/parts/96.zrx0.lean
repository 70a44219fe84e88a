/-! regions of methods, printed by gen/regions.py -/
set_option maxRecDepth 100000
/- X0_against: cut at [0, 26, 42, 58] -/
abbrev mi_X0_against : SmM := (yX0_against, cX0_against, 4, (some FieldType.int : Option FieldType), [])
theorem ok_X0_against : callOk mi_X0_against 3 := ⟨rfl, rfl, Nat.le_of_ble_eq_true rfl, by decide, by decide, by decide +kernel⟩
theorem ent_X0_against (x0 : Option Nat) (x1 : Option Nat) (x2 : Int) : entL (mL mi_X0_against) [vR x0, vR x1, vI x2] = [some (vR x0), some (vR x1), some (vI x2), none] := rfl
/- X0_nextOne: cut at [0, 2, 32] -/
abbrev mi_X0_nextOne : SmM := (yX0_nextOne, cX0_nextOne, 3, (some FieldType.int : Option FieldType), [])
theorem ok_X0_nextOne : callOk mi_X0_nextOne 1 := ⟨rfl, rfl, Nat.le_of_ble_eq_true rfl, by decide, by decide, by decide +kernel⟩
theorem ent_X0_nextOne (x : Option Nat) (x0 : Int) : entL (mL mi_X0_nextOne) [vR x, vI x0] = [some (vR x), some (vI x0), none] := rfl
/- X0_byOne: cut at [0, 15, 17, 42, 51] -/
abbrev mi_X0_byOne : SmM := (yX0_byOne, cX0_byOne, 5, (some FieldType.int : Option FieldType), [])
theorem ok_X0_byOne : callOk mi_X0_byOne 1 := ⟨rfl, rfl, Nat.le_of_ble_eq_true rfl, by decide, by decide, by decide +kernel⟩
theorem ent_X0_byOne (x : Option Nat) (x0 : Int) : entL (mL mi_X0_byOne) [vR x, vI x0] = [some (vR x), some (vI x0), none, none, none] := rfl
/- X0_lostBy: cut at [0, 7, 26, 29, 33, 43, 103, 119] -/
abbrev mi_X0_lostBy : SmM := (yX0_lostBy, cX0_lostBy, 5, (some FieldType.int : Option FieldType), [])
theorem ok_X0_lostBy : callOk mi_X0_lostBy 1 := ⟨rfl, rfl, Nat.le_of_ble_eq_true rfl, by decide, by decide, by decide +kernel⟩
theorem ent_X0_lostBy (x : Option Nat) (x0 : Int) : entL (mL mi_X0_lostBy) [vR x, vI x0] = [some (vR x), some (vI x0), none, none, none] := rfl
/- X0_who: cut at [0, 22, 56, 62, 68] -/
abbrev mi_X0_who : SmM := (yX0_who, cX0_who, 2, (some FieldType.int : Option FieldType), [])
theorem ok_X0_who : callOk mi_X0_who 1 := ⟨rfl, rfl, Nat.le_of_ble_eq_true rfl, by decide, by decide, by decide +kernel⟩
theorem ent_X0_who (x : Option Nat) (x0 : Int) : entL (mL mi_X0_who) [vR x, vI x0] = [some (vR x), some (vI x0)] := rfl
/- X0_order: cut at [0, 13] -/
abbrev mi_X0_order : SmM := (yX0_order, cX0_order, 2, (some FieldType.int : Option FieldType), [])
theorem ok_X0_order : callOk mi_X0_order 1 := ⟨rfl, rfl, Nat.le_of_ble_eq_true rfl, by decide, by decide, by decide +kernel⟩
theorem ent_X0_order (x : Option Nat) (x0 : Int) : entL (mL mi_X0_order) [vR x, vI x0] = [some (vR x), some (vI x0)] := rfl
/- X0_reach: cut at [0, 19, 33, 37, 69] -/
abbrev mi_X0_reach : SmM := (yX0_reach, cX0_reach, 4, (some FieldType.int : Option FieldType), [])
theorem ok_X0_reach : callOk mi_X0_reach 1 := ⟨rfl, rfl, Nat.le_of_ble_eq_true rfl, by decide, by decide, by decide +kernel⟩
theorem ent_X0_reach (x : Option Nat) (x0 : Int) : entL (mL mi_X0_reach) [vR x, vI x0] = [some (vR x), some (vI x0), none, none] := rfl
/- X0_why: cut at [0, 20] -/
abbrev mi_X0_why : SmM := (yX0_why, cX0_why, 2, (some FieldType.int : Option FieldType), [])
theorem ok_X0_why : callOk mi_X0_why 1 := ⟨rfl, rfl, Nat.le_of_ble_eq_true rfl, by decide, by decide, by decide +kernel⟩
theorem ent_X0_why (x : Option Nat) (x0 : Int) : entL (mL mi_X0_why) [vR x, vI x0] = [some (vR x), some (vI x0)] := rfl
/- X0_train: cut at [0] -/
abbrev mi_X0_train : SmM := (yX0_train, cX0_train, 3, (some FieldType.int : Option FieldType), [])
theorem ok_X0_train : callOk mi_X0_train 2 := ⟨rfl, rfl, Nat.le_of_ble_eq_true rfl, by decide, by decide, by decide +kernel⟩
theorem ent_X0_train (x : Option Nat) (x0 : Int) (x1 : Int) : entL (mL mi_X0_train) [vR x, vI x0, vI x1] = [some (vR x), some (vI x0), some (vI x1)] := rfl
/- X0_counted: cut at [0, 4, 24] -/
abbrev mi_X0_counted : SmM := (yX0_counted, cX0_counted, 4, (some FieldType.int : Option FieldType), [])
theorem ok_X0_counted : callOk mi_X0_counted 1 := ⟨rfl, rfl, Nat.le_of_ble_eq_true rfl, by decide, by decide, by decide +kernel⟩
theorem ent_X0_counted (x : Option Nat) (x0 : Option Nat) : entL (mL mi_X0_counted) [vR x, vR x0] = [some (vR x), some (vR x0), none, none] := rfl
def tr_X0_against_0 (d : Nat) (Rq : SmQ) (l : SmL) (st : List SmV) (S : SmS) (I : SmI) : Prop :=
  im_aload 0 l st S I fun l st S I =>
  im_iload 2 l st S I fun l st S I =>
  im_p_X1_isDone d l st S I fun l st S I =>
  im_zeq l st S I (fun l st S I =>
  im_aload 0 l st S I fun l st S I =>
  im_getR 2 8 l st S I fun l st S I =>
  im_iload 2 l st S I fun l st S I =>
  im_ald 102 l st S I fun l st S I =>
  im_zeq l st S I (fun l st S I =>
  im_aload 0 l st S I fun l st S I =>
  im_iload 2 l st S I fun l st S I =>
  im_callS 2 mi_X0_inSection d (retK mi_X0_against 23 26 d Rq l) st S I) (fun l st S I =>
  im_ic 2 l st S I fun l st S I =>
  im_ireturn Rq l st S I)) (fun l st S I =>
  im_ic 1 l st S I fun l st S I =>
  im_ireturn Rq l st S I)
theorem rv_X0_against_0 {d : Nat} {Rq : SmQ} {l : SmL} {st : List SmV} {S : SmS} {I : SmI} (h : tr_X0_against_0 d Rq l st S I) : SW mi_X0_against 0 d Rq l st S I :=
  (show SmW mi_X0_against 0 d Rq (tr_X0_against_0 d Rq) from
  (xv_aload_n dX0_against_0 rfl
  (xv_iload_n dX0_against_1 rfl
  (xv_p_X1_isDone dX0_against_2 (lw_V q580 q581 q582 q105 q583)
  (xv_zeq dX0_against_5 rfl
  (xv_aload_n dX0_against_10 rfl
  (xv_getRN (k := 8) dX0_against_11 cl_2 tg_2 in_X1 (Nat.le_of_ble_eq_true rfl) rfl q213
  (xv_iload_n dX0_against_14 rfl
  (xv_zald dX0_against_15
  (xv_zeq dX0_against_16 rfl
  (xv_aload_n dX0_against_21 rfl
  (xv_iload_n dX0_against_22 rfl
  (xv_callS dX0_against_23 ok_X0_inSection (lw_S q624 q625 q104 q626))))
  (xv_iconst dX0_against_19 rfl (inRd rfl)
  (xv_ireturn dX0_against_20 rfl)))))))
  (xv_iconst dX0_against_8 rfl (inRd rfl)
  (xv_ireturn dX0_against_9 rfl))))))) l st S I h
def tr_X0_against_26 (d : Nat) (Rq : SmQ) (l : SmL) (st : List SmV) (S : SmS) (I : SmI) : Prop :=
  im_ic (-4) l st S I fun l st S I =>
  im_ceq l st S I (fun l st S I =>
  im_aload 1 l st S I fun l st S I =>
  im_aload 0 l st S I fun l st S I =>
  im_p_X1_posture d l st S I fun l st S I =>
  im_iload 2 l st S I fun l st S I =>
  im_callV 2 3 mi_X2_moved d (retK mi_X0_against 39 42 d Rq l) st S I) (fun l st S I =>
  im_ic 3 l st S I fun l st S I =>
  im_ireturn Rq l st S I)
theorem rv_X0_against_26 {d : Nat} {Rq : SmQ} {l : SmL} {st : List SmV} {S : SmS} {I : SmI} (h : tr_X0_against_26 d Rq l st S I) : SW mi_X0_against 26 d Rq l st S I :=
  (show SmW mi_X0_against 26 d Rq (tr_X0_against_26 d Rq) from
  (xv_bipush dX0_against_26 rfl (inRd rfl)
  (xv_ceq dX0_against_28 rfl
  (xv_aload_n dX0_against_33 rfl
  (xv_aload_n dX0_against_34 rfl
  (xv_p_X1_posture dX0_against_35 (lw_V q600 q497 q498 q105 q499)
  (xv_iload_n dX0_against_38 rfl
  (xv_callV dX0_against_39 cl_3 tg_3 ok_X2_moved rfl (lw_V q635 q520 q521 q106 q522))))))
  (xv_iconst dX0_against_31 rfl (inRd rfl)
  (xv_ireturn dX0_against_32 rfl))))) l st S I h
def tr_X0_against_42 (d : Nat) (Rq : SmQ) (l : SmL) (st : List SmV) (S : SmS) (I : SmI) : Prop :=
  im_istore 3 l st S I fun l st S I =>
  im_iload 3 l st S I fun l st S I =>
  im_ic (-4) l st S I fun l st S I =>
  im_cne l st S I (fun l st S I =>
  im_aload 1 l st S I fun l st S I =>
  im_iload 3 l st S I fun l st S I =>
  im_callV 1 3 mi_X2_isSafe d (retK mi_X0_against 55 58 d Rq l) st S I) (fun l st S I =>
  im_ic 4 l st S I fun l st S I =>
  im_ireturn Rq l st S I)
theorem rv_X0_against_42 {d : Nat} {Rq : SmQ} {l : SmL} {st : List SmV} {S : SmS} {I : SmI} (h : tr_X0_against_42 d Rq l st S I) : SW mi_X0_against 42 d Rq l st S I :=
  (show SmW mi_X0_against 42 d Rq (tr_X0_against_42 d Rq) from
  (xv_istore_n dX0_against_42 rfl (Nat.le_of_ble_eq_true rfl)
  (xv_iload_n dX0_against_43 rfl
  (xv_bipush dX0_against_44 rfl (inRd rfl)
  (xv_cne dX0_against_46 rfl
  (xv_aload_n dX0_against_53 rfl
  (xv_iload_n dX0_against_54 rfl
  (xv_callV dX0_against_55 cl_3 tg_3 ok_X2_isSafe rfl (lw_V q636 q512 q513 q106 q514))))
  (xv_iconst dX0_against_49 rfl (inRd rfl)
  (xv_goto dX0_against_50 rfl (xv_ireturn dX0_against_66 rfl)))))))) l st S I h
def tr_X0_against_58 (d : Nat) (Rq : SmQ) (l : SmL) (st : List SmV) (S : SmS) (I : SmI) : Prop :=
  im_zeq l st S I (fun l st S I =>
  im_ic 5 l st S I fun l st S I =>
  im_ireturn Rq l st S I) (fun l st S I =>
  im_ic 0 l st S I fun l st S I =>
  im_ireturn Rq l st S I)
theorem rv_X0_against_58 {d : Nat} {Rq : SmQ} {l : SmL} {st : List SmV} {S : SmS} {I : SmI} (h : tr_X0_against_58 d Rq l st S I) : SW mi_X0_against 58 d Rq l st S I :=
  (show SmW mi_X0_against 58 d Rq (tr_X0_against_58 d Rq) from
  (xv_zeq dX0_against_58 rfl
  (xv_iconst dX0_against_65 rfl (inRd rfl)
  (xv_ireturn dX0_against_66 rfl))
  (xv_iconst dX0_against_61 rfl (inRd rfl)
  (xv_goto dX0_against_62 rfl (xv_ireturn dX0_against_66 rfl))))) l st S I h
def tr_X0_nextOne_0 (d : Nat) (Rq : SmQ) (l : SmL) (st : List SmV) (S : SmS) (I : SmI) : Prop :=
  im_ic 0 l st S I fun l st S I =>
  im_istore 2 l st S I fun l st S I =>
  SW mi_X0_nextOne 2 d Rq l st S I
theorem rv_X0_nextOne_0 {d : Nat} {Rq : SmQ} {l : SmL} {st : List SmV} {S : SmS} {I : SmI} (h : tr_X0_nextOne_0 d Rq l st S I) : SW mi_X0_nextOne 0 d Rq l st S I :=
  (show SmW mi_X0_nextOne 0 d Rq (tr_X0_nextOne_0 d Rq) from
  (xv_iconst dX0_nextOne_0 rfl (inRd rfl)
  (xv_istore_n dX0_nextOne_1 rfl (Nat.le_of_ble_eq_true rfl)
  (fun _ _ _ _ h => h)))) l st S I h
def tr_X0_nextOne_2 (d : Nat) (Rq : SmQ) (l : SmL) (st : List SmV) (S : SmS) (I : SmI) : Prop :=
  im_iload 2 l st S I fun l st S I =>
  im_aload 0 l st S I fun l st S I =>
  im_getR 1 3 l st S I fun l st S I =>
  im_getI 2 10 l st S I fun l st S I =>
  im_cge l st S I (fun l st S I =>
  im_ic (-4) l st S I fun l st S I =>
  im_ireturn Rq l st S I) (fun l st S I =>
  im_iload 1 l st S I fun l st S I =>
  im_iload 2 l st S I fun l st S I =>
  im_p_X0_placeIn d l st S I fun l st S I =>
  im_ic 6 l st S I fun l st S I =>
  im_ceq l st S I (fun l st S I =>
  im_iinc 2 1 l st S I fun l st S I =>
  SW mi_X0_nextOne 2 d Rq l st S I) (fun l st S I =>
  im_aload 0 l st S I fun l st S I =>
  im_getR 1 4 l st S I fun l st S I =>
  im_iload 1 l st S I fun l st S I =>
  im_iload 2 l st S I fun l st S I =>
  im_callV 2 3 mi_X2_gone d (retK mi_X0_nextOne 29 32 d Rq l) st S I))
theorem rv_X0_nextOne_2 {d : Nat} {Rq : SmQ} {l : SmL} {st : List SmV} {S : SmS} {I : SmI} (h : tr_X0_nextOne_2 d Rq l st S I) : SW mi_X0_nextOne 2 d Rq l st S I :=
  (show SmW mi_X0_nextOne 2 d Rq (tr_X0_nextOne_2 d Rq) from
  (xv_iload_n dX0_nextOne_2 rfl
  (xv_aload_n dX0_nextOne_3 rfl
  (xv_getR (k := 3) dX0_nextOne_4 cl_1 tg_1 in_X0 (Nat.le_of_ble_eq_true rfl) rfl q1710
  (xv_getIN (k := 10) dX0_nextOne_7 cl_2 tg_2 in_X1 (Nat.le_of_ble_eq_true rfl) rfl q219
  (xv_cge dX0_nextOne_10 rfl
  (xv_bipush dX0_nextOne_45 rfl (inRd rfl)
  (xv_ireturn dX0_nextOne_47 rfl))
  (xv_iload_n dX0_nextOne_13 rfl
  (xv_iload_n dX0_nextOne_14 rfl
  (xv_p_X0_placeIn dX0_nextOne_15 (lw_S q605 q509 q104 q510)
  (xv_bipush dX0_nextOne_18 rfl (inRd rfl)
  (xv_ceq dX0_nextOne_20 rfl
  (xv_iinc dX0_nextOne_39 (Nat.le_of_ble_eq_true rfl)
  (xv_goto dX0_nextOne_42 rfl (fun _ _ _ _ h => h)))
  (xv_aload_n dX0_nextOne_23 rfl
  (xv_getR (k := 4) dX0_nextOne_24 cl_1 tg_1 in_X0 (Nat.le_of_ble_eq_true rfl) rfl q1711
  (xv_iload_n dX0_nextOne_27 rfl
  (xv_iload_n dX0_nextOne_28 rfl
  (xv_callV dX0_nextOne_29 cl_3 tg_3 ok_X2_gone rfl (lw_V q606 q607 q608 q106 q609))))))))))))))))) l st S I h
def tr_X0_nextOne_32 (d : Nat) (Rq : SmQ) (l : SmL) (st : List SmV) (S : SmS) (I : SmI) : Prop :=
  im_ic (-4) l st S I fun l st S I =>
  im_ceq l st S I (fun l st S I =>
  im_iinc 2 1 l st S I fun l st S I =>
  SW mi_X0_nextOne 2 d Rq l st S I) (fun l st S I =>
  im_iload 2 l st S I fun l st S I =>
  im_ireturn Rq l st S I)
theorem rv_X0_nextOne_32 {d : Nat} {Rq : SmQ} {l : SmL} {st : List SmV} {S : SmS} {I : SmI} (h : tr_X0_nextOne_32 d Rq l st S I) : SW mi_X0_nextOne 32 d Rq l st S I :=
  (show SmW mi_X0_nextOne 32 d Rq (tr_X0_nextOne_32 d Rq) from
  (xv_bipush dX0_nextOne_32 rfl (inRd rfl)
  (xv_ceq dX0_nextOne_34 rfl
  (xv_iinc dX0_nextOne_39 (Nat.le_of_ble_eq_true rfl)
  (xv_goto dX0_nextOne_42 rfl (fun _ _ _ _ h => h)))
  (xv_iload_n dX0_nextOne_37 rfl
  (xv_ireturn dX0_nextOne_38 rfl))))) l st S I h
def tr_X0_byOne_0 (d : Nat) (Rq : SmQ) (l : SmL) (st : List SmV) (S : SmS) (I : SmI) : Prop :=
  im_aload 0 l st S I fun l st S I =>
  im_getR 1 3 l st S I fun l st S I =>
  im_p_X1_posture d l st S I fun l st S I =>
  im_istore 2 l st S I fun l st S I =>
  im_ic 0 l st S I fun l st S I =>
  im_istore 3 l st S I fun l st S I =>
  im_aload 0 l st S I fun l st S I =>
  im_iload 2 l st S I fun l st S I =>
  im_callV 1 1 mi_X0_nextOne d (retK mi_X0_byOne 12 15 d Rq l) st S I
theorem rv_X0_byOne_0 {d : Nat} {Rq : SmQ} {l : SmL} {st : List SmV} {S : SmS} {I : SmI} (h : tr_X0_byOne_0 d Rq l st S I) : SW mi_X0_byOne 0 d Rq l st S I :=
  (show SmW mi_X0_byOne 0 d Rq (tr_X0_byOne_0 d Rq) from
  (xv_aload_n dX0_byOne_0 rfl
  (xv_getR (k := 3) dX0_byOne_1 cl_1 tg_1 in_X0 (Nat.le_of_ble_eq_true rfl) rfl q1710
  (xv_p_X1_posture dX0_byOne_4 (lw_V q600 q497 q498 q105 q499)
  (xv_istore_n dX0_byOne_7 rfl (Nat.le_of_ble_eq_true rfl)
  (xv_iconst dX0_byOne_8 rfl (inRd rfl)
  (xv_istore_n dX0_byOne_9 rfl (Nat.le_of_ble_eq_true rfl)
  (xv_aload_n dX0_byOne_10 rfl
  (xv_iload_n dX0_byOne_11 rfl
  (xv_callV dX0_byOne_12 cl_1 tg_1 ok_X0_nextOne rfl (lw_V q601 q603 qs16 q104 q604))))))))))) l st S I h
def tr_X0_byOne_15 (d : Nat) (Rq : SmQ) (l : SmL) (st : List SmV) (S : SmS) (I : SmI) : Prop :=
  im_istore 4 l st S I fun l st S I =>
  SW mi_X0_byOne 17 d Rq l st S I
theorem rv_X0_byOne_15 {d : Nat} {Rq : SmQ} {l : SmL} {st : List SmV} {S : SmS} {I : SmI} (h : tr_X0_byOne_15 d Rq l st S I) : SW mi_X0_byOne 15 d Rq l st S I :=
  (show SmW mi_X0_byOne 15 d Rq (tr_X0_byOne_15 d Rq) from
  (xv_istore dX0_byOne_15 (Nat.le_of_ble_eq_true rfl)
  (fun _ _ _ _ h => h))) l st S I h
def tr_X0_byOne_17 (d : Nat) (Rq : SmQ) (l : SmL) (st : List SmV) (S : SmS) (I : SmI) : Prop :=
  im_iload 4 l st S I fun l st S I =>
  im_ic (-4) l st S I fun l st S I =>
  im_ceq l st S I (fun l st S I =>
  im_iload 1 l st S I fun l st S I =>
  im_zge l st S I (fun l st S I =>
  im_ic (-4) l st S I fun l st S I =>
  im_ireturn Rq l st S I) (fun l st S I =>
  im_iload 2 l st S I fun l st S I =>
  im_aload 0 l st S I fun l st S I =>
  im_getR 1 3 l st S I fun l st S I =>
  im_p_X1_all d l st S I fun l st S I =>
  im_cne l st S I (fun l st S I =>
  im_ic (-4) l st S I fun l st S I =>
  im_ireturn Rq l st S I) (fun l st S I =>
  im_ic 1 l st S I fun l st S I =>
  im_ireturn Rq l st S I))) (fun l st S I =>
  im_iload 3 l st S I fun l st S I =>
  im_iload 1 l st S I fun l st S I =>
  im_cne l st S I (fun l st S I =>
  im_aload 0 l st S I fun l st S I =>
  im_getR 1 4 l st S I fun l st S I =>
  im_iload 2 l st S I fun l st S I =>
  im_iload 4 l st S I fun l st S I =>
  im_callV 2 3 mi_X2_gone d (retK mi_X0_byOne 39 42 d Rq l) st S I) (fun l st S I =>
  im_iload 4 l st S I fun l st S I =>
  im_ireturn Rq l st S I))
theorem rv_X0_byOne_17 {d : Nat} {Rq : SmQ} {l : SmL} {st : List SmV} {S : SmS} {I : SmI} (h : tr_X0_byOne_17 d Rq l st S I) : SW mi_X0_byOne 17 d Rq l st S I :=
  (show SmW mi_X0_byOne 17 d Rq (tr_X0_byOne_17 d Rq) from
  (xv_iload dX0_byOne_17
  (xv_bipush dX0_byOne_19 rfl (inRd rfl)
  (xv_ceq dX0_byOne_21 rfl
  (xv_iload_n dX0_byOne_56 rfl
  (xv_zge dX0_byOne_57 rfl
  (xv_bipush dX0_byOne_75 rfl (inRd rfl)
  (xv_ireturn dX0_byOne_77 rfl))
  (xv_iload_n dX0_byOne_60 rfl
  (xv_aload_n dX0_byOne_61 rfl
  (xv_getR (k := 3) dX0_byOne_62 cl_1 tg_1 in_X0 (Nat.le_of_ble_eq_true rfl) rfl q1710
  (xv_p_X1_all dX0_byOne_65 (lw_V q610 q516 q517 q105 q518)
  (xv_cne dX0_byOne_68 rfl
  (xv_bipush dX0_byOne_75 rfl (inRd rfl)
  (xv_ireturn dX0_byOne_77 rfl))
  (xv_iconst dX0_byOne_71 rfl (inRd rfl)
  (xv_goto dX0_byOne_72 rfl (xv_ireturn dX0_byOne_77 rfl))))))))))
  (xv_iload_n dX0_byOne_24 rfl
  (xv_iload_n dX0_byOne_25 rfl
  (xv_cne dX0_byOne_26 rfl
  (xv_aload_n dX0_byOne_32 rfl
  (xv_getR (k := 4) dX0_byOne_33 cl_1 tg_1 in_X0 (Nat.le_of_ble_eq_true rfl) rfl q1711
  (xv_iload_n dX0_byOne_36 rfl
  (xv_iload dX0_byOne_37
  (xv_callV dX0_byOne_39 cl_3 tg_3 ok_X2_gone rfl (lw_V q606 q607 q608 q106 q609))))))
  (xv_iload dX0_byOne_29
  (xv_ireturn dX0_byOne_31 rfl))))))))) l st S I h
def tr_X0_byOne_42 (d : Nat) (Rq : SmQ) (l : SmL) (st : List SmV) (S : SmS) (I : SmI) : Prop :=
  im_istore 2 l st S I fun l st S I =>
  im_iinc 3 1 l st S I fun l st S I =>
  im_aload 0 l st S I fun l st S I =>
  im_iload 2 l st S I fun l st S I =>
  im_callV 1 1 mi_X0_nextOne d (retK mi_X0_byOne 48 51 d Rq l) st S I
theorem rv_X0_byOne_42 {d : Nat} {Rq : SmQ} {l : SmL} {st : List SmV} {S : SmS} {I : SmI} (h : tr_X0_byOne_42 d Rq l st S I) : SW mi_X0_byOne 42 d Rq l st S I :=
  (show SmW mi_X0_byOne 42 d Rq (tr_X0_byOne_42 d Rq) from
  (xv_istore_n dX0_byOne_42 rfl (Nat.le_of_ble_eq_true rfl)
  (xv_iinc dX0_byOne_43 (Nat.le_of_ble_eq_true rfl)
  (xv_aload_n dX0_byOne_46 rfl
  (xv_iload_n dX0_byOne_47 rfl
  (xv_callV dX0_byOne_48 cl_1 tg_1 ok_X0_nextOne rfl (lw_V q601 q603 qs16 q104 q604))))))) l st S I h
def tr_X0_byOne_51 (d : Nat) (Rq : SmQ) (l : SmL) (st : List SmV) (S : SmS) (I : SmI) : Prop :=
  im_istore 4 l st S I fun l st S I =>
  SW mi_X0_byOne 17 d Rq l st S I
theorem rv_X0_byOne_51 {d : Nat} {Rq : SmQ} {l : SmL} {st : List SmV} {S : SmS} {I : SmI} (h : tr_X0_byOne_51 d Rq l st S I) : SW mi_X0_byOne 51 d Rq l st S I :=
  (show SmW mi_X0_byOne 51 d Rq (tr_X0_byOne_51 d Rq) from
  (xv_istore dX0_byOne_51 (Nat.le_of_ble_eq_true rfl)
  (xv_goto dX0_byOne_53 rfl (fun _ _ _ _ h => h)))) l st S I h
def tr_X0_lostBy_0 (d : Nat) (Rq : SmQ) (l : SmL) (st : List SmV) (S : SmS) (I : SmI) : Prop :=
  im_aload 0 l st S I fun l st S I =>
  im_getR 1 4 l st S I fun l st S I =>
  im_callV 0 3 mi_X2_starts d (retK mi_X0_lostBy 4 7 d Rq l) st S I
theorem rv_X0_lostBy_0 {d : Nat} {Rq : SmQ} {l : SmL} {st : List SmV} {S : SmS} {I : SmI} (h : tr_X0_lostBy_0 d Rq l st S I) : SW mi_X0_lostBy 0 d Rq l st S I :=
  (show SmW mi_X0_lostBy 0 d Rq (tr_X0_lostBy_0 d Rq) from
  (xv_aload_n dX0_lostBy_0 rfl
  (xv_getR (k := 4) dX0_lostBy_1 cl_1 tg_1 in_X0 (Nat.le_of_ble_eq_true rfl) rfl q1711
  (xv_callV dX0_lostBy_4 cl_3 tg_3 ok_X2_starts rfl (lw_V q678 q679 q680 q106 q681))))) l st S I h
def tr_X0_lostBy_7 (d : Nat) (Rq : SmQ) (l : SmL) (st : List SmV) (S : SmS) (I : SmI) : Prop :=
  im_aload 0 l st S I fun l st S I =>
  im_getR 1 4 l st S I fun l st S I =>
  im_aload 0 l st S I fun l st S I =>
  im_getR 1 4 l st S I fun l st S I =>
  im_aload 0 l st S I fun l st S I =>
  im_getR 1 3 l st S I fun l st S I =>
  im_p_X1_posture d l st S I fun l st S I =>
  im_iload 1 l st S I fun l st S I =>
  im_callV 2 3 mi_X2_moved d (retK mi_X0_lostBy 23 26 d Rq l) st S I
theorem rv_X0_lostBy_7 {d : Nat} {Rq : SmQ} {l : SmL} {st : List SmV} {S : SmS} {I : SmI} (h : tr_X0_lostBy_7 d Rq l st S I) : SW mi_X0_lostBy 7 d Rq l st S I :=
  (show SmW mi_X0_lostBy 7 d Rq (tr_X0_lostBy_7 d Rq) from
  (xv_aload_n dX0_lostBy_7 rfl
  (xv_getR (k := 4) dX0_lostBy_8 cl_1 tg_1 in_X0 (Nat.le_of_ble_eq_true rfl) rfl q1711
  (xv_aload_n dX0_lostBy_11 rfl
  (xv_getR (k := 4) dX0_lostBy_12 cl_1 tg_1 in_X0 (Nat.le_of_ble_eq_true rfl) rfl q1711
  (xv_aload_n dX0_lostBy_15 rfl
  (xv_getR (k := 3) dX0_lostBy_16 cl_1 tg_1 in_X0 (Nat.le_of_ble_eq_true rfl) rfl q1710
  (xv_p_X1_posture dX0_lostBy_19 (lw_V q600 q497 q498 q105 q499)
  (xv_iload_n dX0_lostBy_22 rfl
  (xv_callV dX0_lostBy_23 cl_3 tg_3 ok_X2_moved rfl (lw_V q635 q520 q521 q106 q522))))))))))) l st S I h
def tr_X0_lostBy_26 (d : Nat) (Rq : SmQ) (l : SmL) (st : List SmV) (S : SmS) (I : SmI) : Prop :=
  im_callV 1 3 mi_X2_meets d (retK mi_X0_lostBy 26 29 d Rq l) st S I
theorem rv_X0_lostBy_26 {d : Nat} {Rq : SmQ} {l : SmL} {st : List SmV} {S : SmS} {I : SmI} (h : tr_X0_lostBy_26 d Rq l st S I) : SW mi_X0_lostBy 26 d Rq l st S I :=
  (show SmW mi_X0_lostBy 26 d Rq (tr_X0_lostBy_26 d Rq) from
  (xv_callV dX0_lostBy_26 cl_3 tg_3 ok_X2_meets rfl (lw_V q682 q683 q684 q106 q685))) l st S I h
def tr_X0_lostBy_29 (d : Nat) (Rq : SmQ) (l : SmL) (st : List SmV) (S : SmS) (I : SmI) : Prop :=
  im_ic 0 l st S I fun l st S I =>
  im_istore 2 l st S I fun l st S I =>
  im_ic 0 l st S I fun l st S I =>
  im_istore 3 l st S I fun l st S I =>
  SW mi_X0_lostBy 33 d Rq l st S I
theorem rv_X0_lostBy_29 {d : Nat} {Rq : SmQ} {l : SmL} {st : List SmV} {S : SmS} {I : SmI} (h : tr_X0_lostBy_29 d Rq l st S I) : SW mi_X0_lostBy 29 d Rq l st S I :=
  (show SmW mi_X0_lostBy 29 d Rq (tr_X0_lostBy_29 d Rq) from
  (xv_iconst dX0_lostBy_29 rfl (inRd rfl)
  (xv_istore_n dX0_lostBy_30 rfl (Nat.le_of_ble_eq_true rfl)
  (xv_iconst dX0_lostBy_31 rfl (inRd rfl)
  (xv_istore_n dX0_lostBy_32 rfl (Nat.le_of_ble_eq_true rfl)
  (fun _ _ _ _ h => h)))))) l st S I h
def tr_X0_lostBy_33 (d : Nat) (Rq : SmQ) (l : SmL) (st : List SmV) (S : SmS) (I : SmI) : Prop :=
  im_iload 3 l st S I fun l st S I =>
  im_ic 2401 l st S I fun l st S I =>
  im_cge l st S I (fun l st S I =>
  im_ic 0 l st S I fun l st S I =>
  im_istore 3 l st S I fun l st S I =>
  SW mi_X0_lostBy 103 d Rq l st S I) (fun l st S I =>
  im_ic 0 l st S I fun l st S I =>
  im_istore 4 l st S I fun l st S I =>
  SW mi_X0_lostBy 43 d Rq l st S I)
theorem rv_X0_lostBy_33 {d : Nat} {Rq : SmQ} {l : SmL} {st : List SmV} {S : SmS} {I : SmI} (h : tr_X0_lostBy_33 d Rq l st S I) : SW mi_X0_lostBy 33 d Rq l st S I :=
  (show SmW mi_X0_lostBy 33 d Rq (tr_X0_lostBy_33 d Rq) from
  (xv_iload_n dX0_lostBy_33 rfl
  (xv_sipush dX0_lostBy_34 rfl (inRd rfl)
  (xv_cge dX0_lostBy_37 rfl
  (xv_iconst dX0_lostBy_101 rfl (inRd rfl)
  (xv_istore_n dX0_lostBy_102 rfl (Nat.le_of_ble_eq_true rfl)
  (fun _ _ _ _ h => h)))
  (xv_iconst dX0_lostBy_40 rfl (inRd rfl)
  (xv_istore dX0_lostBy_41 (Nat.le_of_ble_eq_true rfl)
  (fun _ _ _ _ h => h))))))) l st S I h
def tr_X0_lostBy_43 (d : Nat) (Rq : SmQ) (l : SmL) (st : List SmV) (S : SmS) (I : SmI) : Prop :=
  im_iload 4 l st S I fun l st S I =>
  im_aload 0 l st S I fun l st S I =>
  im_getR 1 3 l st S I fun l st S I =>
  im_getI 2 10 l st S I fun l st S I =>
  im_cge l st S I (fun l st S I =>
  im_iinc 3 1 l st S I fun l st S I =>
  SW mi_X0_lostBy 33 d Rq l st S I) (fun l st S I =>
  im_aload 0 l st S I fun l st S I =>
  im_getR 1 4 l st S I fun l st S I =>
  im_getR 3 2 l st S I fun l st S I =>
  im_iload 3 l st S I fun l st S I =>
  im_ald 102 l st S I fun l st S I =>
  im_zeq l st S I (fun l st S I =>
  im_iinc 3 1 l st S I fun l st S I =>
  SW mi_X0_lostBy 33 d Rq l st S I) (fun l st S I =>
  im_iload 2 l st S I fun l st S I =>
  im_iload 3 l st S I fun l st S I =>
  im_iload 4 l st S I fun l st S I =>
  im_p_X0_placeIn d l st S I fun l st S I =>
  im_ic 6 l st S I fun l st S I =>
  im_cne l st S I (fun l st S I =>
  im_ic 0 l st S I fun l st S I =>
  im_ior l st S I fun l st S I =>
  im_istore 2 l st S I fun l st S I =>
  im_iinc 4 1 l st S I fun l st S I =>
  SW mi_X0_lostBy 43 d Rq l st S I) (fun l st S I =>
  im_ic 1 l st S I fun l st S I =>
  im_iload 4 l st S I fun l st S I =>
  im_ishl l st S I fun l st S I =>
  im_ior l st S I fun l st S I =>
  im_istore 2 l st S I fun l st S I =>
  im_iinc 4 1 l st S I fun l st S I =>
  SW mi_X0_lostBy 43 d Rq l st S I)))
theorem rv_X0_lostBy_43 {d : Nat} {Rq : SmQ} {l : SmL} {st : List SmV} {S : SmS} {I : SmI} (h : tr_X0_lostBy_43 d Rq l st S I) : SW mi_X0_lostBy 43 d Rq l st S I :=
  (show SmW mi_X0_lostBy 43 d Rq (tr_X0_lostBy_43 d Rq) from
  (xv_iload dX0_lostBy_43
  (xv_aload_n dX0_lostBy_45 rfl
  (xv_getR (k := 3) dX0_lostBy_46 cl_1 tg_1 in_X0 (Nat.le_of_ble_eq_true rfl) rfl q1710
  (xv_getIN (k := 10) dX0_lostBy_49 cl_2 tg_2 in_X1 (Nat.le_of_ble_eq_true rfl) rfl q219
  (xv_cge dX0_lostBy_52 rfl
  (xv_iinc dX0_lostBy_95 (Nat.le_of_ble_eq_true rfl)
  (xv_goto dX0_lostBy_98 rfl (fun _ _ _ _ h => h)))
  (xv_aload_n dX0_lostBy_55 rfl
  (xv_getR (k := 4) dX0_lostBy_56 cl_1 tg_1 in_X0 (Nat.le_of_ble_eq_true rfl) rfl q1711
  (xv_getRN (k := 2) dX0_lostBy_59 cl_3 tg_3 in_X2 (Nat.le_of_ble_eq_true rfl) rfl q485
  (xv_iload_n dX0_lostBy_62 rfl
  (xv_zald dX0_lostBy_63
  (xv_zeq dX0_lostBy_64 rfl
  (xv_iinc dX0_lostBy_95 (Nat.le_of_ble_eq_true rfl)
  (xv_goto dX0_lostBy_98 rfl (fun _ _ _ _ h => h)))
  (xv_iload_n dX0_lostBy_67 rfl
  (xv_iload_n dX0_lostBy_68 rfl
  (xv_iload dX0_lostBy_69
  (xv_p_X0_placeIn dX0_lostBy_71 (lw_S q605 q509 q104 q510)
  (xv_bipush dX0_lostBy_74 rfl (inRd rfl)
  (xv_cne dX0_lostBy_76 rfl
  (xv_iconst dX0_lostBy_86 rfl (inRd rfl)
  (xv_ior dX0_lostBy_87
  (xv_istore_n dX0_lostBy_88 rfl (Nat.le_of_ble_eq_true rfl)
  (xv_iinc dX0_lostBy_89 (Nat.le_of_ble_eq_true rfl)
  (xv_goto dX0_lostBy_92 rfl (fun _ _ _ _ h => h))))))
  (xv_iconst dX0_lostBy_79 rfl (inRd rfl)
  (xv_iload dX0_lostBy_80
  (xv_ishl dX0_lostBy_82
  (xv_goto dX0_lostBy_83 rfl (xv_ior dX0_lostBy_87
  (xv_istore_n dX0_lostBy_88 rfl (Nat.le_of_ble_eq_true rfl)
  (xv_iinc dX0_lostBy_89 (Nat.le_of_ble_eq_true rfl)
  (xv_goto dX0_lostBy_92 rfl (fun _ _ _ _ h => h))))))))))))))))))))))))))) l st S I h
def tr_X0_lostBy_103 (d : Nat) (Rq : SmQ) (l : SmL) (st : List SmV) (S : SmS) (I : SmI) : Prop :=
  im_iload 3 l st S I fun l st S I =>
  im_aload 0 l st S I fun l st S I =>
  im_getR 1 3 l st S I fun l st S I =>
  im_getI 2 10 l st S I fun l st S I =>
  im_cge l st S I (fun l st S I =>
  im_ic (-4) l st S I fun l st S I =>
  im_ireturn Rq l st S I) (fun l st S I =>
  im_iload 2 l st S I fun l st S I =>
  im_iload 3 l st S I fun l st S I =>
  im_callS 2 mi_X0_has d (retK mi_X0_lostBy 116 119 d Rq l) st S I)
theorem rv_X0_lostBy_103 {d : Nat} {Rq : SmQ} {l : SmL} {st : List SmV} {S : SmS} {I : SmI} (h : tr_X0_lostBy_103 d Rq l st S I) : SW mi_X0_lostBy 103 d Rq l st S I :=
  (show SmW mi_X0_lostBy 103 d Rq (tr_X0_lostBy_103 d Rq) from
  (xv_iload_n dX0_lostBy_103 rfl
  (xv_aload_n dX0_lostBy_104 rfl
  (xv_getR (k := 3) dX0_lostBy_105 cl_1 tg_1 in_X0 (Nat.le_of_ble_eq_true rfl) rfl q1710
  (xv_getIN (k := 10) dX0_lostBy_108 cl_2 tg_2 in_X1 (Nat.le_of_ble_eq_true rfl) rfl q219
  (xv_cge dX0_lostBy_111 rfl
  (xv_bipush dX0_lostBy_130 rfl (inRd rfl)
  (xv_ireturn dX0_lostBy_132 rfl))
  (xv_iload_n dX0_lostBy_114 rfl
  (xv_iload_n dX0_lostBy_115 rfl
  (xv_callS dX0_lostBy_116 ok_X0_has (lw_S q687 q459 q104 q460)))))))))) l st S I h
def tr_X0_lostBy_119 (d : Nat) (Rq : SmQ) (l : SmL) (st : List SmV) (S : SmS) (I : SmI) : Prop :=
  im_zne l st S I (fun l st S I =>
  im_iinc 3 1 l st S I fun l st S I =>
  SW mi_X0_lostBy 103 d Rq l st S I) (fun l st S I =>
  im_iload 3 l st S I fun l st S I =>
  im_ireturn Rq l st S I)
theorem rv_X0_lostBy_119 {d : Nat} {Rq : SmQ} {l : SmL} {st : List SmV} {S : SmS} {I : SmI} (h : tr_X0_lostBy_119 d Rq l st S I) : SW mi_X0_lostBy 119 d Rq l st S I :=
  (show SmW mi_X0_lostBy 119 d Rq (tr_X0_lostBy_119 d Rq) from
  (xv_zne dX0_lostBy_119 rfl
  (xv_iinc dX0_lostBy_124 (Nat.le_of_ble_eq_true rfl)
  (xv_goto dX0_lostBy_127 rfl (fun _ _ _ _ h => h)))
  (xv_iload_n dX0_lostBy_122 rfl
  (xv_ireturn dX0_lostBy_123 rfl)))) l st S I h
def tr_X0_who_0 (d : Nat) (Rq : SmQ) (l : SmL) (st : List SmV) (S : SmS) (I : SmI) : Prop :=
  im_aload 0 l st S I fun l st S I =>
  im_iload 1 l st S I fun l st S I =>
  im_p_X0_isTrain d l st S I fun l st S I =>
  im_zne l st S I (fun l st S I =>
  im_aload 0 l st S I fun l st S I =>
  im_getR 1 3 l st S I fun l st S I =>
  im_aload 0 l st S I fun l st S I =>
  im_getR 1 4 l st S I fun l st S I =>
  im_iload 1 l st S I fun l st S I =>
  im_callS 3 mi_X0_against d (retK mi_X0_who 19 22 d Rq l) st S I) (fun l st S I =>
  im_ic (-1) l st S I fun l st S I =>
  im_ireturn Rq l st S I)
theorem rv_X0_who_0 {d : Nat} {Rq : SmQ} {l : SmL} {st : List SmV} {S : SmS} {I : SmI} (h : tr_X0_who_0 d Rq l st S I) : SW mi_X0_who 0 d Rq l st S I :=
  (show SmW mi_X0_who 0 d Rq (tr_X0_who_0 d Rq) from
  (xv_aload_n dX0_who_0 rfl
  (xv_iload_n dX0_who_1 rfl
  (xv_p_X0_isTrain dX0_who_2 (lw_V q652 q654 qs21 q104 q655)
  (xv_zne dX0_who_5 rfl
  (xv_aload_n dX0_who_10 rfl
  (xv_getR (k := 3) dX0_who_11 cl_1 tg_1 in_X0 (Nat.le_of_ble_eq_true rfl) rfl q1710
  (xv_aload_n dX0_who_14 rfl
  (xv_getR (k := 4) dX0_who_15 cl_1 tg_1 in_X0 (Nat.le_of_ble_eq_true rfl) rfl q1711
  (xv_iload_n dX0_who_18 rfl
  (xv_callS dX0_who_19 ok_X0_against (lw_S q621 q622 q104 q623)))))))
  (xv_iconst dX0_who_8 rfl (inRd rfl)
  (xv_ireturn dX0_who_9 rfl))))))) l st S I h
def tr_X0_who_22 (d : Nat) (Rq : SmQ) (l : SmL) (st : List SmV) (S : SmS) (I : SmI) : Prop :=
  im_tsw 3 5 [(fun l st S I =>
  im_aload 0 l st S I fun l st S I =>
  im_getR 1 3 l st S I fun l st S I =>
  im_iload 1 l st S I fun l st S I =>
  im_callS 2 mi_X0_inSection d (retK mi_X0_who 53 56 d Rq l) st S I), (fun l st S I =>
  im_aload 0 l st S I fun l st S I =>
  im_iload 1 l st S I fun l st S I =>
  im_callV 1 1 mi_X0_thereAlready d (retK mi_X0_who 59 62 d Rq l) st S I), (fun l st S I =>
  im_aload 0 l st S I fun l st S I =>
  im_iload 1 l st S I fun l st S I =>
  im_callV 1 1 mi_X0_lostBy d (retK mi_X0_who 65 68 d Rq l) st S I)] (fun l st S I =>
  im_ic (-4) l st S I fun l st S I =>
  im_ireturn Rq l st S I) l st S I
theorem rv_X0_who_22 {d : Nat} {Rq : SmQ} {l : SmL} {st : List SmV} {S : SmS} {I : SmI} (h : tr_X0_who_22 d Rq l st S I) : SW mi_X0_who 22 d Rq l st S I :=
  (show SmW mi_X0_who 22 d Rq (tr_X0_who_22 d Rq) from
  (xv_tsw dX0_who_22 rfl ⟨⟨48, rfl, (xv_aload_n dX0_who_48 rfl
  (xv_getR (k := 3) dX0_who_49 cl_1 tg_1 in_X0 (Nat.le_of_ble_eq_true rfl) rfl q1710
  (xv_iload_n dX0_who_52 rfl
  (xv_callS dX0_who_53 ok_X0_inSection (lw_S q624 q625 q104 q626)))))⟩, ⟨57, rfl, (xv_aload_n dX0_who_57 rfl
  (xv_iload_n dX0_who_58 rfl
  (xv_callV dX0_who_59 cl_1 tg_1 ok_X0_thereAlready rfl (lw_V q669 q671 qs22 q104 q672))))⟩, ⟨63, rfl, (xv_aload_n dX0_who_63 rfl
  (xv_iload_n dX0_who_64 rfl
  (xv_callV dX0_who_65 cl_1 tg_1 ok_X0_lostBy rfl (lw_V q674 q676 qs23 q104 q677))))⟩, trivial⟩ rfl (xv_bipush dX0_who_69 rfl (inRd rfl)
  (xv_ireturn dX0_who_71 rfl)))) l st S I h
def tr_X0_who_56 (d : Nat) (Rq : SmQ) (l : SmL) (st : List SmV) (S : SmS) (I : SmI) : Prop :=
  im_ireturn Rq l st S I
theorem rv_X0_who_56 {d : Nat} {Rq : SmQ} {l : SmL} {st : List SmV} {S : SmS} {I : SmI} (h : tr_X0_who_56 d Rq l st S I) : SW mi_X0_who 56 d Rq l st S I :=
  (show SmW mi_X0_who 56 d Rq (tr_X0_who_56 d Rq) from
  (xv_ireturn dX0_who_56 rfl)) l st S I h
def tr_X0_who_62 (d : Nat) (Rq : SmQ) (l : SmL) (st : List SmV) (S : SmS) (I : SmI) : Prop :=
  im_ireturn Rq l st S I
theorem rv_X0_who_62 {d : Nat} {Rq : SmQ} {l : SmL} {st : List SmV} {S : SmS} {I : SmI} (h : tr_X0_who_62 d Rq l st S I) : SW mi_X0_who 62 d Rq l st S I :=
  (show SmW mi_X0_who 62 d Rq (tr_X0_who_62 d Rq) from
  (xv_ireturn dX0_who_62 rfl)) l st S I h
def tr_X0_who_68 (d : Nat) (Rq : SmQ) (l : SmL) (st : List SmV) (S : SmS) (I : SmI) : Prop :=
  im_ireturn Rq l st S I
theorem rv_X0_who_68 {d : Nat} {Rq : SmQ} {l : SmL} {st : List SmV} {S : SmS} {I : SmI} (h : tr_X0_who_68 d Rq l st S I) : SW mi_X0_who 68 d Rq l st S I :=
  (show SmW mi_X0_who 68 d Rq (tr_X0_who_68 d Rq) from
  (xv_ireturn dX0_who_68 rfl)) l st S I h
def tr_X0_order_0 (d : Nat) (Rq : SmQ) (l : SmL) (st : List SmV) (S : SmS) (I : SmI) : Prop :=
  im_iload 1 l st S I fun l st S I =>
  im_zge l st S I (fun l st S I =>
  im_aload 0 l st S I fun l st S I =>
  im_iload 1 l st S I fun l st S I =>
  im_callV 1 1 mi_X0_byOne d (retK mi_X0_order 10 13 d Rq l) st S I) (fun l st S I =>
  im_ic (-1) l st S I fun l st S I =>
  SW mi_X0_order 13 d Rq l st S I)
theorem rv_X0_order_0 {d : Nat} {Rq : SmQ} {l : SmL} {st : List SmV} {S : SmS} {I : SmI} (h : tr_X0_order_0 d Rq l st S I) : SW mi_X0_order 0 d Rq l st S I :=
  (show SmW mi_X0_order 0 d Rq (tr_X0_order_0 d Rq) from
  (xv_iload_n dX0_order_0 rfl
  (xv_zge dX0_order_1 rfl
  (xv_aload_n dX0_order_8 rfl
  (xv_iload_n dX0_order_9 rfl
  (xv_callV dX0_order_10 cl_1 tg_1 ok_X0_byOne rfl (lw_V q596 q598 qs15 q104 q599))))
  (xv_iconst dX0_order_4 rfl (inRd rfl)
  (xv_goto dX0_order_5 rfl (fun _ _ _ _ h => h)))))) l st S I h
def tr_X0_order_13 (d : Nat) (Rq : SmQ) (l : SmL) (st : List SmV) (S : SmS) (I : SmI) : Prop :=
  im_ireturn Rq l st S I
theorem rv_X0_order_13 {d : Nat} {Rq : SmQ} {l : SmL} {st : List SmV} {S : SmS} {I : SmI} (h : tr_X0_order_13 d Rq l st S I) : SW mi_X0_order 13 d Rq l st S I :=
  (show SmW mi_X0_order 13 d Rq (tr_X0_order_13 d Rq) from
  (xv_ireturn dX0_order_13 rfl)) l st S I h
def tr_X0_reach_0 (d : Nat) (Rq : SmQ) (l : SmL) (st : List SmV) (S : SmS) (I : SmI) : Prop :=
  im_iload 1 l st S I fun l st S I =>
  im_i2l l st S I fun l st S I =>
  im_lc 0 l st S I fun l st S I =>
  im_lc 1 l st S I fun l st S I =>
  im_p_X0_isIn d l st S I fun l st S I =>
  im_zne l st S I (fun l st S I =>
  im_aload 0 l st S I fun l st S I =>
  im_getR 1 4 l st S I fun l st S I =>
  im_callV 0 3 mi_X2_starts d (retK mi_X0_reach 16 19 d Rq l) st S I) (fun l st S I =>
  im_ic (-1) l st S I fun l st S I =>
  im_ireturn Rq l st S I)
theorem rv_X0_reach_0 {d : Nat} {Rq : SmQ} {l : SmL} {st : List SmV} {S : SmS} {I : SmI} (h : tr_X0_reach_0 d Rq l st S I) : SW mi_X0_reach 0 d Rq l st S I :=
  (show SmW mi_X0_reach 0 d Rq (tr_X0_reach_0 d Rq) from
  (xv_iload_n dX0_reach_0 rfl
  (xv_i2l dX0_reach_1
  (xv_lconst dX0_reach_2 rfl (inR64d rfl)
  (xv_lconst dX0_reach_3 rfl (inR64d rfl)
  (xv_p_X0_isIn dX0_reach_4 (lw_S q156 q157 q104 q158)
  (xv_zne dX0_reach_7 rfl
  (xv_aload_n dX0_reach_12 rfl
  (xv_getR (k := 4) dX0_reach_13 cl_1 tg_1 in_X0 (Nat.le_of_ble_eq_true rfl) rfl q1711
  (xv_callV dX0_reach_16 cl_3 tg_3 ok_X2_starts rfl (lw_V q678 q679 q680 q106 q681))))
  (xv_iconst dX0_reach_10 rfl (inRd rfl)
  (xv_ireturn dX0_reach_11 rfl))))))))) l st S I h
def tr_X0_reach_19 (d : Nat) (Rq : SmQ) (l : SmL) (st : List SmV) (S : SmS) (I : SmI) : Prop :=
  im_aload 0 l st S I fun l st S I =>
  im_getR 1 4 l st S I fun l st S I =>
  im_aload 0 l st S I fun l st S I =>
  im_getR 1 3 l st S I fun l st S I =>
  im_p_X1_posture d l st S I fun l st S I =>
  im_callV 1 3 mi_X2_meets d (retK mi_X0_reach 30 33 d Rq l) st S I
theorem rv_X0_reach_19 {d : Nat} {Rq : SmQ} {l : SmL} {st : List SmV} {S : SmS} {I : SmI} (h : tr_X0_reach_19 d Rq l st S I) : SW mi_X0_reach 19 d Rq l st S I :=
  (show SmW mi_X0_reach 19 d Rq (tr_X0_reach_19 d Rq) from
  (xv_aload_n dX0_reach_19 rfl
  (xv_getR (k := 4) dX0_reach_20 cl_1 tg_1 in_X0 (Nat.le_of_ble_eq_true rfl) rfl q1711
  (xv_aload_n dX0_reach_23 rfl
  (xv_getR (k := 3) dX0_reach_24 cl_1 tg_1 in_X0 (Nat.le_of_ble_eq_true rfl) rfl q1710
  (xv_p_X1_posture dX0_reach_27 (lw_V q600 q497 q498 q105 q499)
  (xv_callV dX0_reach_30 cl_3 tg_3 ok_X2_meets rfl (lw_V q682 q683 q684 q106 q685)))))))) l st S I h
def tr_X0_reach_33 (d : Nat) (Rq : SmQ) (l : SmL) (st : List SmV) (S : SmS) (I : SmI) : Prop :=
  im_ic 0 l st S I fun l st S I =>
  im_istore 2 l st S I fun l st S I =>
  im_ic 0 l st S I fun l st S I =>
  im_istore 3 l st S I fun l st S I =>
  SW mi_X0_reach 37 d Rq l st S I
theorem rv_X0_reach_33 {d : Nat} {Rq : SmQ} {l : SmL} {st : List SmV} {S : SmS} {I : SmI} (h : tr_X0_reach_33 d Rq l st S I) : SW mi_X0_reach 33 d Rq l st S I :=
  (show SmW mi_X0_reach 33 d Rq (tr_X0_reach_33 d Rq) from
  (xv_iconst dX0_reach_33 rfl (inRd rfl)
  (xv_istore_n dX0_reach_34 rfl (Nat.le_of_ble_eq_true rfl)
  (xv_iconst dX0_reach_35 rfl (inRd rfl)
  (xv_istore_n dX0_reach_36 rfl (Nat.le_of_ble_eq_true rfl)
  (fun _ _ _ _ h => h)))))) l st S I h
def tr_X0_reach_37 (d : Nat) (Rq : SmQ) (l : SmL) (st : List SmV) (S : SmS) (I : SmI) : Prop :=
  im_iload 3 l st S I fun l st S I =>
  im_ic 2401 l st S I fun l st S I =>
  im_cge l st S I (fun l st S I =>
  im_iload 2 l st S I fun l st S I =>
  im_ireturn Rq l st S I) (fun l st S I =>
  im_iload 2 l st S I fun l st S I =>
  im_aload 0 l st S I fun l st S I =>
  im_getR 1 4 l st S I fun l st S I =>
  im_getR 3 2 l st S I fun l st S I =>
  im_iload 3 l st S I fun l st S I =>
  im_ald 102 l st S I fun l st S I =>
  im_zeq l st S I (fun l st S I =>
  im_ic 0 l st S I fun l st S I =>
  im_iadd l st S I fun l st S I =>
  im_istore 2 l st S I fun l st S I =>
  im_iinc 3 1 l st S I fun l st S I =>
  SW mi_X0_reach 37 d Rq l st S I) (fun l st S I =>
  im_iload 1 l st S I fun l st S I =>
  im_zeq l st S I (fun l st S I =>
  im_ic 1 l st S I fun l st S I =>
  im_iadd l st S I fun l st S I =>
  im_istore 2 l st S I fun l st S I =>
  im_iinc 3 1 l st S I fun l st S I =>
  SW mi_X0_reach 37 d Rq l st S I) (fun l st S I =>
  im_aload 0 l st S I fun l st S I =>
  im_getR 1 4 l st S I fun l st S I =>
  im_iload 3 l st S I fun l st S I =>
  im_callV 1 3 mi_X2_isSafe d (retK mi_X0_reach 66 69 d Rq l) st S I)))
theorem rv_X0_reach_37 {d : Nat} {Rq : SmQ} {l : SmL} {st : List SmV} {S : SmS} {I : SmI} (h : tr_X0_reach_37 d Rq l st S I) : SW mi_X0_reach 37 d Rq l st S I :=
  (show SmW mi_X0_reach 37 d Rq (tr_X0_reach_37 d Rq) from
  (xv_iload_n dX0_reach_37 rfl
  (xv_sipush dX0_reach_38 rfl (inRd rfl)
  (xv_cge dX0_reach_41 rfl
  (xv_iload_n dX0_reach_85 rfl
  (xv_ireturn dX0_reach_86 rfl))
  (xv_iload_n dX0_reach_44 rfl
  (xv_aload_n dX0_reach_45 rfl
  (xv_getR (k := 4) dX0_reach_46 cl_1 tg_1 in_X0 (Nat.le_of_ble_eq_true rfl) rfl q1711
  (xv_getRN (k := 2) dX0_reach_49 cl_3 tg_3 in_X2 (Nat.le_of_ble_eq_true rfl) rfl q485
  (xv_iload_n dX0_reach_52 rfl
  (xv_zald dX0_reach_53
  (xv_zeq dX0_reach_54 rfl
  (xv_iconst dX0_reach_76 rfl (inRd rfl)
  (xv_iadd dX0_reach_77
  (xv_istore_n dX0_reach_78 rfl (Nat.le_of_ble_eq_true rfl)
  (xv_iinc dX0_reach_79 (Nat.le_of_ble_eq_true rfl)
  (xv_goto dX0_reach_82 rfl (fun _ _ _ _ h => h))))))
  (xv_iload_n dX0_reach_57 rfl
  (xv_zeq dX0_reach_58 rfl
  (xv_iconst dX0_reach_72 rfl (inRd rfl)
  (xv_goto dX0_reach_73 rfl (xv_iadd dX0_reach_77
  (xv_istore_n dX0_reach_78 rfl (Nat.le_of_ble_eq_true rfl)
  (xv_iinc dX0_reach_79 (Nat.le_of_ble_eq_true rfl)
  (xv_goto dX0_reach_82 rfl (fun _ _ _ _ h => h)))))))
  (xv_aload_n dX0_reach_61 rfl
  (xv_getR (k := 4) dX0_reach_62 cl_1 tg_1 in_X0 (Nat.le_of_ble_eq_true rfl) rfl q1711
  (xv_iload_n dX0_reach_65 rfl
  (xv_callV dX0_reach_66 cl_3 tg_3 ok_X2_isSafe rfl (lw_V q636 q512 q513 q106 q514)))))))))))))))))) l st S I h
def tr_X0_reach_69 (d : Nat) (Rq : SmQ) (l : SmL) (st : List SmV) (S : SmS) (I : SmI) : Prop :=
  im_zeq l st S I (fun l st S I =>
  im_ic 0 l st S I fun l st S I =>
  im_iadd l st S I fun l st S I =>
  im_istore 2 l st S I fun l st S I =>
  im_iinc 3 1 l st S I fun l st S I =>
  SW mi_X0_reach 37 d Rq l st S I) (fun l st S I =>
  im_ic 1 l st S I fun l st S I =>
  im_iadd l st S I fun l st S I =>
  im_istore 2 l st S I fun l st S I =>
  im_iinc 3 1 l st S I fun l st S I =>
  SW mi_X0_reach 37 d Rq l st S I)
theorem rv_X0_reach_69 {d : Nat} {Rq : SmQ} {l : SmL} {st : List SmV} {S : SmS} {I : SmI} (h : tr_X0_reach_69 d Rq l st S I) : SW mi_X0_reach 69 d Rq l st S I :=
  (show SmW mi_X0_reach 69 d Rq (tr_X0_reach_69 d Rq) from
  (xv_zeq dX0_reach_69 rfl
  (xv_iconst dX0_reach_76 rfl (inRd rfl)
  (xv_iadd dX0_reach_77
  (xv_istore_n dX0_reach_78 rfl (Nat.le_of_ble_eq_true rfl)
  (xv_iinc dX0_reach_79 (Nat.le_of_ble_eq_true rfl)
  (xv_goto dX0_reach_82 rfl (fun _ _ _ _ h => h))))))
  (xv_iconst dX0_reach_72 rfl (inRd rfl)
  (xv_goto dX0_reach_73 rfl (xv_iadd dX0_reach_77
  (xv_istore_n dX0_reach_78 rfl (Nat.le_of_ble_eq_true rfl)
  (xv_iinc dX0_reach_79 (Nat.le_of_ble_eq_true rfl)
  (xv_goto dX0_reach_82 rfl (fun _ _ _ _ h => h))))))))) l st S I h
def tr_X0_why_0 (d : Nat) (Rq : SmQ) (l : SmL) (st : List SmV) (S : SmS) (I : SmI) : Prop :=
  im_aload 0 l st S I fun l st S I =>
  im_iload 1 l st S I fun l st S I =>
  im_p_X0_isTrain d l st S I fun l st S I =>
  im_zeq l st S I (fun l st S I =>
  im_ic (-1) l st S I fun l st S I =>
  im_ireturn Rq l st S I) (fun l st S I =>
  im_aload 0 l st S I fun l st S I =>
  im_getR 1 3 l st S I fun l st S I =>
  im_aload 0 l st S I fun l st S I =>
  im_getR 1 4 l st S I fun l st S I =>
  im_iload 1 l st S I fun l st S I =>
  im_callS 3 mi_X0_against d (retK mi_X0_why 17 20 d Rq l) st S I)
theorem rv_X0_why_0 {d : Nat} {Rq : SmQ} {l : SmL} {st : List SmV} {S : SmS} {I : SmI} (h : tr_X0_why_0 d Rq l st S I) : SW mi_X0_why 0 d Rq l st S I :=
  (show SmW mi_X0_why 0 d Rq (tr_X0_why_0 d Rq) from
  (xv_aload_n dX0_why_0 rfl
  (xv_iload_n dX0_why_1 rfl
  (xv_p_X0_isTrain dX0_why_2 (lw_V q652 q654 qs21 q104 q655)
  (xv_zeq dX0_why_5 rfl
  (xv_iconst dX0_why_23 rfl (inRd rfl)
  (xv_ireturn dX0_why_24 rfl))
  (xv_aload_n dX0_why_8 rfl
  (xv_getR (k := 3) dX0_why_9 cl_1 tg_1 in_X0 (Nat.le_of_ble_eq_true rfl) rfl q1710
  (xv_aload_n dX0_why_12 rfl
  (xv_getR (k := 4) dX0_why_13 cl_1 tg_1 in_X0 (Nat.le_of_ble_eq_true rfl) rfl q1711
  (xv_iload_n dX0_why_16 rfl
  (xv_callS dX0_why_17 ok_X0_against (lw_S q621 q622 q104 q623)))))))))))) l st S I h
def tr_X0_why_20 (d : Nat) (Rq : SmQ) (l : SmL) (st : List SmV) (S : SmS) (I : SmI) : Prop :=
  im_ireturn Rq l st S I
theorem rv_X0_why_20 {d : Nat} {Rq : SmQ} {l : SmL} {st : List SmV} {S : SmS} {I : SmI} (h : tr_X0_why_20 d Rq l st S I) : SW mi_X0_why 20 d Rq l st S I :=
  (show SmW mi_X0_why 20 d Rq (tr_X0_why_20 d Rq) from
  (xv_goto dX0_why_20 rfl (xv_ireturn dX0_why_24 rfl))) l st S I h
def tr_X0_train_0 (d : Nat) (Rq : SmQ) (l : SmL) (st : List SmV) (S : SmS) (I : SmI) : Prop :=
  im_aload 0 l st S I fun l st S I =>
  im_iload 1 l st S I fun l st S I =>
  im_p_X0_isTrain d l st S I fun l st S I =>
  im_zne l st S I (fun l st S I =>
  im_iload 2 l st S I fun l st S I =>
  im_tsw 0 6 [(fun l st S I =>
  im_aload 0 l st S I fun l st S I =>
  im_getR 1 3 l st S I fun l st S I =>
  im_getR 2 4 l st S I fun l st S I =>
  im_iload 1 l st S I fun l st S I =>
  im_ald 100 l st S I fun l st S I =>
  im_ireturn Rq l st S I), (fun l st S I =>
  im_aload 0 l st S I fun l st S I =>
  im_getR 1 3 l st S I fun l st S I =>
  im_getR 2 5 l st S I fun l st S I =>
  im_iload 1 l st S I fun l st S I =>
  im_ald 100 l st S I fun l st S I =>
  im_ireturn Rq l st S I), (fun l st S I =>
  im_aload 0 l st S I fun l st S I =>
  im_getR 1 3 l st S I fun l st S I =>
  im_getR 2 6 l st S I fun l st S I =>
  im_iload 1 l st S I fun l st S I =>
  im_ald 100 l st S I fun l st S I =>
  im_ireturn Rq l st S I), (fun l st S I =>
  im_aload 0 l st S I fun l st S I =>
  im_getR 1 3 l st S I fun l st S I =>
  im_getR 2 7 l st S I fun l st S I =>
  im_iload 1 l st S I fun l st S I =>
  im_ald 100 l st S I fun l st S I =>
  im_aload 0 l st S I fun l st S I =>
  im_getR 1 3 l st S I fun l st S I =>
  im_getR 2 5 l st S I fun l st S I =>
  im_iload 1 l st S I fun l st S I =>
  im_ald 100 l st S I fun l st S I =>
  im_cne l st S I (fun l st S I =>
  im_aload 0 l st S I fun l st S I =>
  im_getR 1 3 l st S I fun l st S I =>
  im_getR 2 7 l st S I fun l st S I =>
  im_iload 1 l st S I fun l st S I =>
  im_ald 100 l st S I fun l st S I =>
  im_ireturn Rq l st S I) (fun l st S I =>
  im_ic (-4) l st S I fun l st S I =>
  im_ireturn Rq l st S I)), (fun l st S I =>
  im_aload 0 l st S I fun l st S I =>
  im_getR 1 3 l st S I fun l st S I =>
  im_getR 2 8 l st S I fun l st S I =>
  im_iload 1 l st S I fun l st S I =>
  im_ald 102 l st S I fun l st S I =>
  im_zeq l st S I (fun l st S I =>
  im_aload 0 l st S I fun l st S I =>
  im_getR 1 3 l st S I fun l st S I =>
  im_iload 1 l st S I fun l st S I =>
  im_p_X1_isDone d l st S I fun l st S I =>
  im_zeq l st S I (fun l st S I =>
  im_ic 0 l st S I fun l st S I =>
  im_ireturn Rq l st S I) (fun l st S I =>
  im_ic 2 l st S I fun l st S I =>
  im_ireturn Rq l st S I)) (fun l st S I =>
  im_ic 1 l st S I fun l st S I =>
  im_ireturn Rq l st S I)), (fun l st S I =>
  im_aload 0 l st S I fun l st S I =>
  im_getR 1 3 l st S I fun l st S I =>
  im_getR 2 8 l st S I fun l st S I =>
  im_iload 1 l st S I fun l st S I =>
  im_ald 102 l st S I fun l st S I =>
  im_zne l st S I (fun l st S I =>
  im_aload 0 l st S I fun l st S I =>
  im_getR 1 3 l st S I fun l st S I =>
  im_getR 2 9 l st S I fun l st S I =>
  im_iload 1 l st S I fun l st S I =>
  im_ald 100 l st S I fun l st S I =>
  im_ireturn Rq l st S I) (fun l st S I =>
  im_aload 0 l st S I fun l st S I =>
  im_getR 1 3 l st S I fun l st S I =>
  im_iload 1 l st S I fun l st S I =>
  im_p_X1_isDone d l st S I fun l st S I =>
  im_zeq l st S I (fun l st S I =>
  im_ic (-4) l st S I fun l st S I =>
  im_ireturn Rq l st S I) (fun l st S I =>
  im_aload 0 l st S I fun l st S I =>
  im_getR 1 3 l st S I fun l st S I =>
  im_getR 2 9 l st S I fun l st S I =>
  im_iload 1 l st S I fun l st S I =>
  im_ald 100 l st S I fun l st S I =>
  im_ireturn Rq l st S I))), (fun l st S I =>
  im_aload 0 l st S I fun l st S I =>
  im_getR 1 3 l st S I fun l st S I =>
  im_iload 1 l st S I fun l st S I =>
  im_p_X1_still d l st S I fun l st S I =>
  im_ireturn Rq l st S I)] (fun l st S I =>
  im_ic (-1) l st S I fun l st S I =>
  im_ireturn Rq l st S I) l st S I) (fun l st S I =>
  im_ic (-1) l st S I fun l st S I =>
  im_ireturn Rq l st S I)
theorem rv_X0_train_0 {d : Nat} {Rq : SmQ} {l : SmL} {st : List SmV} {S : SmS} {I : SmI} (h : tr_X0_train_0 d Rq l st S I) : SW mi_X0_train 0 d Rq l st S I :=
  (show SmW mi_X0_train 0 d Rq (tr_X0_train_0 d Rq) from
  (xv_aload_n dX0_train_0 rfl
  (xv_iload_n dX0_train_1 rfl
  (xv_p_X0_isTrain dX0_train_2 (lw_V q652 q654 qs21 q104 q655)
  (xv_zne dX0_train_5 rfl
  (xv_iload_n dX0_train_10 rfl
  (xv_tsw dX0_train_11 rfl ⟨⟨52, rfl, (xv_aload_n dX0_train_52 rfl
  (xv_getR (k := 3) dX0_train_53 cl_1 tg_1 in_X0 (Nat.le_of_ble_eq_true rfl) rfl q1710
  (xv_getRN (k := 4) dX0_train_56 cl_2 tg_2 in_X1 (Nat.le_of_ble_eq_true rfl) rfl q203
  (xv_iload_n dX0_train_59 rfl
  (xv_iald dX0_train_60
  (xv_ireturn dX0_train_61 rfl))))))⟩, ⟨62, rfl, (xv_aload_n dX0_train_62 rfl
  (xv_getR (k := 3) dX0_train_63 cl_1 tg_1 in_X0 (Nat.le_of_ble_eq_true rfl) rfl q1710
  (xv_getRN (k := 5) dX0_train_66 cl_2 tg_2 in_X1 (Nat.le_of_ble_eq_true rfl) rfl q206
  (xv_iload_n dX0_train_69 rfl
  (xv_iald dX0_train_70
  (xv_ireturn dX0_train_71 rfl))))))⟩, ⟨72, rfl, (xv_aload_n dX0_train_72 rfl
  (xv_getR (k := 3) dX0_train_73 cl_1 tg_1 in_X0 (Nat.le_of_ble_eq_true rfl) rfl q1710
  (xv_getRN (k := 6) dX0_train_76 cl_2 tg_2 in_X1 (Nat.le_of_ble_eq_true rfl) rfl q209
  (xv_iload_n dX0_train_79 rfl
  (xv_iald dX0_train_80
  (xv_ireturn dX0_train_81 rfl))))))⟩, ⟨82, rfl, (xv_aload_n dX0_train_82 rfl
  (xv_getR (k := 3) dX0_train_83 cl_1 tg_1 in_X0 (Nat.le_of_ble_eq_true rfl) rfl q1710
  (xv_getRN (k := 7) dX0_train_86 cl_2 tg_2 in_X1 (Nat.le_of_ble_eq_true rfl) rfl q211
  (xv_iload_n dX0_train_89 rfl
  (xv_iald dX0_train_90
  (xv_aload_n dX0_train_91 rfl
  (xv_getR (k := 3) dX0_train_92 cl_1 tg_1 in_X0 (Nat.le_of_ble_eq_true rfl) rfl q1710
  (xv_getRN (k := 5) dX0_train_95 cl_2 tg_2 in_X1 (Nat.le_of_ble_eq_true rfl) rfl q206
  (xv_iload_n dX0_train_98 rfl
  (xv_iald dX0_train_99
  (xv_cne dX0_train_100 rfl
  (xv_aload_n dX0_train_108 rfl
  (xv_getR (k := 3) dX0_train_109 cl_1 tg_1 in_X0 (Nat.le_of_ble_eq_true rfl) rfl q1710
  (xv_getRN (k := 7) dX0_train_112 cl_2 tg_2 in_X1 (Nat.le_of_ble_eq_true rfl) rfl q211
  (xv_iload_n dX0_train_115 rfl
  (xv_iald dX0_train_116
  (xv_ireturn dX0_train_117 rfl))))))
  (xv_bipush dX0_train_103 rfl (inRd rfl)
  (xv_goto dX0_train_105 rfl (xv_ireturn dX0_train_117 rfl))))))))))))))⟩, ⟨118, rfl, (xv_aload_n dX0_train_118 rfl
  (xv_getR (k := 3) dX0_train_119 cl_1 tg_1 in_X0 (Nat.le_of_ble_eq_true rfl) rfl q1710
  (xv_getRN (k := 8) dX0_train_122 cl_2 tg_2 in_X1 (Nat.le_of_ble_eq_true rfl) rfl q213
  (xv_iload_n dX0_train_125 rfl
  (xv_zald dX0_train_126
  (xv_zeq dX0_train_127 rfl
  (xv_aload_n dX0_train_134 rfl
  (xv_getR (k := 3) dX0_train_135 cl_1 tg_1 in_X0 (Nat.le_of_ble_eq_true rfl) rfl q1710
  (xv_iload_n dX0_train_138 rfl
  (xv_p_X1_isDone dX0_train_139 (lw_V q580 q581 q582 q105 q583)
  (xv_zeq dX0_train_142 rfl
  (xv_iconst dX0_train_149 rfl (inRd rfl)
  (xv_ireturn dX0_train_150 rfl))
  (xv_iconst dX0_train_145 rfl (inRd rfl)
  (xv_goto dX0_train_146 rfl (xv_ireturn dX0_train_150 rfl))))))))
  (xv_iconst dX0_train_130 rfl (inRd rfl)
  (xv_goto dX0_train_131 rfl (xv_ireturn dX0_train_150 rfl)))))))))⟩, ⟨151, rfl, (xv_aload_n dX0_train_151 rfl
  (xv_getR (k := 3) dX0_train_152 cl_1 tg_1 in_X0 (Nat.le_of_ble_eq_true rfl) rfl q1710
  (xv_getRN (k := 8) dX0_train_155 cl_2 tg_2 in_X1 (Nat.le_of_ble_eq_true rfl) rfl q213
  (xv_iload_n dX0_train_158 rfl
  (xv_zald dX0_train_159
  (xv_zne dX0_train_160 rfl
  (xv_aload_n dX0_train_174 rfl
  (xv_getR (k := 3) dX0_train_175 cl_1 tg_1 in_X0 (Nat.le_of_ble_eq_true rfl) rfl q1710
  (xv_getRN (k := 9) dX0_train_178 cl_2 tg_2 in_X1 (Nat.le_of_ble_eq_true rfl) rfl q215
  (xv_iload_n dX0_train_181 rfl
  (xv_iald dX0_train_182
  (xv_goto dX0_train_183 rfl (xv_ireturn dX0_train_188 rfl)))))))
  (xv_aload_n dX0_train_163 rfl
  (xv_getR (k := 3) dX0_train_164 cl_1 tg_1 in_X0 (Nat.le_of_ble_eq_true rfl) rfl q1710
  (xv_iload_n dX0_train_167 rfl
  (xv_p_X1_isDone dX0_train_168 (lw_V q580 q581 q582 q105 q583)
  (xv_zeq dX0_train_171 rfl
  (xv_bipush dX0_train_186 rfl (inRd rfl)
  (xv_ireturn dX0_train_188 rfl))
  (xv_aload_n dX0_train_174 rfl
  (xv_getR (k := 3) dX0_train_175 cl_1 tg_1 in_X0 (Nat.le_of_ble_eq_true rfl) rfl q1710
  (xv_getRN (k := 9) dX0_train_178 cl_2 tg_2 in_X1 (Nat.le_of_ble_eq_true rfl) rfl q215
  (xv_iload_n dX0_train_181 rfl
  (xv_iald dX0_train_182
  (xv_goto dX0_train_183 rfl (xv_ireturn dX0_train_188 rfl))))))))))))))))))⟩, ⟨189, rfl, (xv_aload_n dX0_train_189 rfl
  (xv_getR (k := 3) dX0_train_190 cl_1 tg_1 in_X0 (Nat.le_of_ble_eq_true rfl) rfl q1710
  (xv_iload_n dX0_train_193 rfl
  (xv_p_X1_still dX0_train_194 (lw_V q656 q657 q658 q105 q659)
  (xv_ireturn dX0_train_197 rfl)))))⟩, trivial⟩ rfl (xv_iconst dX0_train_198 rfl (inRd rfl)
  (xv_ireturn dX0_train_199 rfl))))
  (xv_iconst dX0_train_8 rfl (inRd rfl)
  (xv_ireturn dX0_train_9 rfl))))))) l st S I h
def tr_X0_counted_0 (d : Nat) (Rq : SmQ) (l : SmL) (st : List SmV) (S : SmS) (I : SmI) : Prop :=
  im_ic 0 l st S I fun l st S I =>
  im_istore 2 l st S I fun l st S I =>
  im_ic 0 l st S I fun l st S I =>
  im_istore 3 l st S I fun l st S I =>
  SW mi_X0_counted 4 d Rq l st S I
theorem rv_X0_counted_0 {d : Nat} {Rq : SmQ} {l : SmL} {st : List SmV} {S : SmS} {I : SmI} (h : tr_X0_counted_0 d Rq l st S I) : SW mi_X0_counted 0 d Rq l st S I :=
  (show SmW mi_X0_counted 0 d Rq (tr_X0_counted_0 d Rq) from
  (xv_iconst dX0_counted_0 rfl (inRd rfl)
  (xv_istore_n dX0_counted_1 rfl (Nat.le_of_ble_eq_true rfl)
  (xv_iconst dX0_counted_2 rfl (inRd rfl)
  (xv_istore_n dX0_counted_3 rfl (Nat.le_of_ble_eq_true rfl)
  (fun _ _ _ _ h => h)))))) l st S I h
def tr_X0_counted_4 (d : Nat) (Rq : SmQ) (l : SmL) (st : List SmV) (S : SmS) (I : SmI) : Prop :=
  im_iload 3 l st S I fun l st S I =>
  im_aload 0 l st S I fun l st S I =>
  im_getR 1 3 l st S I fun l st S I =>
  im_getI 2 10 l st S I fun l st S I =>
  im_cge l st S I (fun l st S I =>
  im_iload 2 l st S I fun l st S I =>
  im_ireturn Rq l st S I) (fun l st S I =>
  im_iload 2 l st S I fun l st S I =>
  im_aload 1 l st S I fun l st S I =>
  im_iload 3 l st S I fun l st S I =>
  im_ic 0 l st S I fun l st S I =>
  SW mi_X0_counted 19 d Rq l st S I)
theorem rv_X0_counted_4 {d : Nat} {Rq : SmQ} {l : SmL} {st : List SmV} {S : SmS} {I : SmI} (h : tr_X0_counted_4 d Rq l st S I) : SW mi_X0_counted 4 d Rq l st S I :=
  (show SmW mi_X0_counted 4 d Rq (tr_X0_counted_4 d Rq) from
  (xv_iload_n dX0_counted_4 rfl
  (xv_aload_n dX0_counted_5 rfl
  (xv_getR (k := 3) dX0_counted_6 cl_1 tg_1 in_X0 (Nat.le_of_ble_eq_true rfl) rfl q1710
  (xv_getIN (k := 10) dX0_counted_9 cl_2 tg_2 in_X1 (Nat.le_of_ble_eq_true rfl) rfl q219
  (xv_cge dX0_counted_12 rfl
  (xv_iload_n dX0_counted_40 rfl
  (xv_ireturn dX0_counted_41 rfl))
  (xv_iload_n dX0_counted_15 rfl
  (xv_aload_n dX0_counted_16 rfl
  (xv_iload_n dX0_counted_17 rfl
  (xv_iconst dX0_counted_18 rfl (inRd rfl)
  (fun _ _ _ _ h => h))))))))))) l st S I h
def tr_X0_counted_24 (d : Nat) (Rq : SmQ) (l : SmL) (st : List SmV) (S : SmS) (I : SmI) : Prop :=
  im_zeq l st S I (fun l st S I =>
  im_ic 0 l st S I fun l st S I =>
  im_iadd l st S I fun l st S I =>
  im_istore 2 l st S I fun l st S I =>
  im_iinc 3 1 l st S I fun l st S I =>
  SW mi_X0_counted 4 d Rq l st S I) (fun l st S I =>
  im_ic 1 l st S I fun l st S I =>
  im_iadd l st S I fun l st S I =>
  im_istore 2 l st S I fun l st S I =>
  im_iinc 3 1 l st S I fun l st S I =>
  SW mi_X0_counted 4 d Rq l st S I)
theorem rv_X0_counted_24 {d : Nat} {Rq : SmQ} {l : SmL} {st : List SmV} {S : SmS} {I : SmI} (h : tr_X0_counted_24 d Rq l st S I) : SW mi_X0_counted 24 d Rq l st S I :=
  (show SmW mi_X0_counted 24 d Rq (tr_X0_counted_24 d Rq) from
  (xv_zeq dX0_counted_24 rfl
  (xv_iconst dX0_counted_31 rfl (inRd rfl)
  (xv_iadd dX0_counted_32
  (xv_istore_n dX0_counted_33 rfl (Nat.le_of_ble_eq_true rfl)
  (xv_iinc dX0_counted_34 (Nat.le_of_ble_eq_true rfl)
  (xv_goto dX0_counted_37 rfl (fun _ _ _ _ h => h))))))
  (xv_iconst dX0_counted_27 rfl (inRd rfl)
  (xv_goto dX0_counted_28 rfl (xv_iadd dX0_counted_32
  (xv_istore_n dX0_counted_33 rfl (Nat.le_of_ble_eq_true rfl)
  (xv_iinc dX0_counted_34 (Nat.le_of_ble_eq_true rfl)
  (xv_goto dX0_counted_37 rfl (fun _ _ _ _ h => h))))))))) l st S I h
