/-! regions of methods, printed by gen/regions.py -/
set_option maxRecDepth 100000
/- X6_nextFrom: cut at [0] -/
abbrev mi_X6_nextFrom : SmM := (yX6_nextFrom, cX6_nextFrom, 3, (some FieldType.int : Option FieldType), [])
theorem ok_X6_nextFrom : callOk mi_X6_nextFrom 2 := ⟨rfl, rfl, Nat.le_of_ble_eq_true rfl, by decide, by decide, by decide +kernel⟩
theorem ent_X6_nextFrom (x : Option Nat) (x0 : Int) (x1 : Int) : entL (mL mi_X6_nextFrom) [vR x, vI x0, vI x1] = [some (vR x), some (vI x0), some (vI x1)] := rfl
/- X6_isDoneIn: cut at [0] -/
abbrev mi_X6_isDoneIn : SmM := (yX6_isDoneIn, cX6_isDoneIn, 2, (some FieldType.boolean : Option FieldType), [])
theorem ok_X6_isDoneIn : callOk mi_X6_isDoneIn 1 := ⟨rfl, rfl, Nat.le_of_ble_eq_true rfl, by decide, by decide, by decide +kernel⟩
theorem ent_X6_isDoneIn (x : Option Nat) (x0 : Int) : entL (mL mi_X6_isDoneIn) [vR x, vI x0] = [some (vR x), some (vI x0)] := rfl
/- X6_minutesOf: cut at [0] -/
abbrev mi_X6_minutesOf : SmM := (yX6_minutesOf, cX6_minutesOf, 3, (some FieldType.int : Option FieldType), [])
theorem ok_X6_minutesOf : callOk mi_X6_minutesOf 2 := ⟨rfl, rfl, Nat.le_of_ble_eq_true rfl, by decide, by decide, by decide +kernel⟩
theorem ent_X6_minutesOf (x : Option Nat) (x0 : Int) (x1 : Int) : entL (mL mi_X6_minutesOf) [vR x, vI x0, vI x1] = [some (vR x), some (vI x0), some (vI x1)] := rfl
/- X6_leftBy: cut at [0] -/
abbrev mi_X6_leftBy : SmM := (yX6_leftBy, cX6_leftBy, 2, (some FieldType.int : Option FieldType), [])
theorem ok_X6_leftBy : callOk mi_X6_leftBy 1 := ⟨rfl, rfl, Nat.le_of_ble_eq_true rfl, by decide, by decide, by decide +kernel⟩
theorem ent_X6_leftBy (x : Option Nat) (x0 : Int) : entL (mL mi_X6_leftBy) [vR x, vI x0] = [some (vR x), some (vI x0)] := rfl
/- X6_isPlace: cut at [0] -/
abbrev mi_X6_isPlace : SmM := (yX6_isPlace, cX6_isPlace, 2, (some FieldType.boolean : Option FieldType), [])
theorem ok_X6_isPlace : callOk mi_X6_isPlace 1 := ⟨rfl, rfl, Nat.le_of_ble_eq_true rfl, by decide, by decide, by decide +kernel⟩
theorem ent_X6_isPlace (x : Option Nat) (x0 : Int) : entL (mL mi_X6_isPlace) [vR x, vI x0] = [some (vR x), some (vI x0)] := rfl
/- X6_isTrain: cut at [0] -/
abbrev mi_X6_isTrain : SmM := (yX6_isTrain, cX6_isTrain, 2, (some FieldType.boolean : Option FieldType), [])
theorem ok_X6_isTrain : callOk mi_X6_isTrain 1 := ⟨rfl, rfl, Nat.le_of_ble_eq_true rfl, by decide, by decide, by decide +kernel⟩
theorem ent_X6_isTrain (x : Option Nat) (x0 : Int) : entL (mL mi_X6_isTrain) [vR x, vI x0] = [some (vR x), some (vI x0)] := rfl
/- X6_isSheet: cut at [0] -/
abbrev mi_X6_isSheet : SmM := (yX6_isSheet, cX6_isSheet, 2, (some FieldType.boolean : Option FieldType), [])
theorem ok_X6_isSheet : callOk mi_X6_isSheet 2 := ⟨rfl, rfl, Nat.le_of_ble_eq_true rfl, by decide, by decide, by decide +kernel⟩
theorem ent_X6_isSheet (x0 : Int) (x1 : Int) : entL (mL mi_X6_isSheet) [vI x0, vI x1] = [some (vI x0), some (vI x1)] := rfl
/- X6_is: cut at [0] -/
abbrev mi_X6_is : SmM := (yX6_is, cX6_is, 6, (some FieldType.boolean : Option FieldType), [])
theorem ok_X6_is : callOk mi_X6_is 5 := ⟨rfl, rfl, Nat.le_of_ble_eq_true rfl, by decide, by decide, by decide +kernel⟩
theorem ent_X6_is (x : Option Nat) (x0 : Int) (x1 : Int) (x2 : Int) (x3 : Int) (x4 : Int) : entL (mL mi_X6_is) [vR x, vI x0, vI x1, vI x2, vI x3, vI x4] = [some (vR x), some (vI x0), some (vI x1), some (vI x2), some (vI x3), some (vI x4)] := rfl
/- X6_hasRoom: cut at [0] -/
abbrev mi_X6_hasRoom : SmM := (yX6_hasRoom, cX6_hasRoom, 2, (some FieldType.boolean : Option FieldType), [])
theorem ok_X6_hasRoom : callOk mi_X6_hasRoom 1 := ⟨rfl, rfl, Nat.le_of_ble_eq_true rfl, by decide, by decide, by decide +kernel⟩
theorem ent_X6_hasRoom (x : Option Nat) (x0 : Int) : entL (mL mi_X6_hasRoom) [vR x, vI x0] = [some (vR x), some (vI x0)] := rfl
/- X6_encode: cut at [0, 4] -/
abbrev mi_X6_encode : SmM := (yX6_encode, cX6_encode, 3, (some FieldType.int : Option FieldType), [])
theorem ok_X6_encode : callOk mi_X6_encode 0 := ⟨rfl, rfl, Nat.le_of_ble_eq_true rfl, by decide, by decide, by decide +kernel⟩
theorem ent_X6_encode (x : Option Nat) : entL (mL mi_X6_encode) [vR x] = [some (vR x), none, none] := rfl
/- X6_decode: cut at [0, 2] -/
abbrev mi_X6_decode : SmM := (yX6_decode, cX6_decode, 3, (none : Option FieldType), [])
theorem ok_X6_decode : callOk mi_X6_decode 1 := ⟨rfl, rfl, Nat.le_of_ble_eq_true rfl, by decide, by decide, by decide +kernel⟩
theorem ent_X6_decode (x : Option Nat) (x0 : Int) : entL (mL mi_X6_decode) [vR x, vI x0] = [some (vR x), some (vI x0), none] := rfl
/- X6_withStatus: cut at [0, 4] -/
abbrev mi_X6_withStatus : SmM := (yX6_withStatus, cX6_withStatus, 4, (some FieldType.int : Option FieldType), [])
theorem ok_X6_withStatus : callOk mi_X6_withStatus 1 := ⟨rfl, rfl, Nat.le_of_ble_eq_true rfl, by decide, by decide, by decide +kernel⟩
theorem ent_X6_withStatus (x : Option Nat) (x0 : Int) : entL (mL mi_X6_withStatus) [vR x, vI x0] = [some (vR x), some (vI x0), none, none] := rfl
/- X6_movesLeft: cut at [0, 4] -/
abbrev mi_X6_movesLeft : SmM := (yX6_movesLeft, cX6_movesLeft, 4, (some FieldType.int : Option FieldType), [])
theorem ok_X6_movesLeft : callOk mi_X6_movesLeft 0 := ⟨rfl, rfl, Nat.le_of_ble_eq_true rfl, by decide, by decide, by decide +kernel⟩
theorem ent_X6_movesLeft (x : Option Nat) : entL (mL mi_X6_movesLeft) [vR x] = [some (vR x), none, none, none] := rfl
/- X6_areAllPlaces: cut at [0, 4] -/
abbrev mi_X6_areAllPlaces : SmM := (yX6_areAllPlaces, cX6_areAllPlaces, 3, (some FieldType.boolean : Option FieldType), [])
theorem ok_X6_areAllPlaces : callOk mi_X6_areAllPlaces 0 := ⟨rfl, rfl, Nat.le_of_ble_eq_true rfl, by decide, by decide, by decide +kernel⟩
theorem ent_X6_areAllPlaces (x : Option Nat) : entL (mL mi_X6_areAllPlaces) [vR x] = [some (vR x), none, none] := rfl
/- X6_summed: cut at [0, 6] -/
abbrev mi_X6_summed : SmM := (yX6_summed, cX6_summed, 6, (some FieldType.int : Option FieldType), [])
theorem ok_X6_summed : callOk mi_X6_summed 3 := ⟨rfl, rfl, Nat.le_of_ble_eq_true rfl, by decide, by decide, by decide +kernel⟩
theorem ent_X6_summed (x : Option Nat) (x0 : Int) (x1 : Int) (x2 : Int) : entL (mL mi_X6_summed) [vR x, vI x0, vI x1, vI x2] = [some (vR x), some (vI x0), some (vI x1), some (vI x2), none, none] := rfl
/- X6_tracksFor: cut at [0, 5] -/
abbrev mi_X6_tracksFor : SmM := (yX6_tracksFor, cX6_tracksFor, 5, (some FieldType.int : Option FieldType), [])
theorem ok_X6_tracksFor : callOk mi_X6_tracksFor 2 := ⟨rfl, rfl, Nat.le_of_ble_eq_true rfl, by decide, by decide, by decide +kernel⟩
theorem ent_X6_tracksFor (x : Option Nat) (x0 : Int) (x1 : Int) : entL (mL mi_X6_tracksFor) [vR x, vI x0, vI x1] = [some (vR x), some (vI x0), some (vI x1), none, none] := rfl
/- X6_trainsFor: cut at [0, 5] -/
abbrev mi_X6_trainsFor : SmM := (yX6_trainsFor, cX6_trainsFor, 5, (some FieldType.int : Option FieldType), [])
theorem ok_X6_trainsFor : callOk mi_X6_trainsFor 2 := ⟨rfl, rfl, Nat.le_of_ble_eq_true rfl, by decide, by decide, by decide +kernel⟩
theorem ent_X6_trainsFor (x : Option Nat) (x0 : Int) (x1 : Int) : entL (mL mi_X6_trainsFor) [vR x, vI x0, vI x1] = [some (vR x), some (vI x0), some (vI x1), none, none] := rfl
/- X6_isEverDone: cut at [0, 4] -/
abbrev mi_X6_isEverDone : SmM := (yX6_isEverDone, cX6_isEverDone, 4, (some FieldType.boolean : Option FieldType), [])
theorem ok_X6_isEverDone : callOk mi_X6_isEverDone 1 := ⟨rfl, rfl, Nat.le_of_ble_eq_true rfl, by decide, by decide, by decide +kernel⟩
theorem ent_X6_isEverDone (x : Option Nat) (x0 : Int) : entL (mL mi_X6_isEverDone) [vR x, vI x0] = [some (vR x), some (vI x0), none, none] := rfl
def tr_X6_nextFrom_0 (d : Nat) (Rq : SmQ) (l : SmL) (st : List SmV) (S : SmS) (I : SmI) : Prop :=
  im_aload 0 l st S I fun l st S I =>
  im_iload 1 l st S I fun l st S I =>
  im_ic 1 l st S I fun l st S I =>
  im_p_X6_ofTrain d l st S I fun l st S I =>
  im_aload 0 l st S I fun l st S I =>
  im_iload 1 l st S I fun l st S I =>
  im_ic 0 l st S I fun l st S I =>
  im_p_X6_ofTrain d l st S I fun l st S I =>
  im_cle l st S I (fun l st S I =>
  im_iload 2 l st S I fun l st S I =>
  im_ic 1 l st S I fun l st S I =>
  im_isub l st S I fun l st S I =>
  im_ireturn Rq l st S I) (fun l st S I =>
  im_iload 2 l st S I fun l st S I =>
  im_ic 1 l st S I fun l st S I =>
  im_iadd l st S I fun l st S I =>
  im_ireturn Rq l st S I)
theorem rv_X6_nextFrom_0 {d : Nat} {Rq : SmQ} {l : SmL} {st : List SmV} {S : SmS} {I : SmI} (h : tr_X6_nextFrom_0 d Rq l st S I) : SW mi_X6_nextFrom 0 d Rq l st S I :=
  (show SmW mi_X6_nextFrom 0 d Rq (tr_X6_nextFrom_0 d Rq) from
  (xv_aload_n dX6_nextFrom_0 rfl
  (xv_iload_n dX6_nextFrom_1 rfl
  (xv_iconst dX6_nextFrom_2 rfl (inRd rfl)
  (xv_p_X6_ofTrain dX6_nextFrom_3 (lw_V q2003 q2005 qs59 q117 q2006)
  (xv_aload_n dX6_nextFrom_6 rfl
  (xv_iload_n dX6_nextFrom_7 rfl
  (xv_iconst dX6_nextFrom_8 rfl (inRd rfl)
  (xv_p_X6_ofTrain dX6_nextFrom_9 (lw_V q2003 q2005 qs59 q117 q2006)
  (xv_cle dX6_nextFrom_12 rfl
  (xv_iload_n dX6_nextFrom_21 rfl
  (xv_iconst dX6_nextFrom_22 rfl (inRd rfl)
  (xv_isub dX6_nextFrom_23
  (xv_ireturn dX6_nextFrom_24 rfl))))
  (xv_iload_n dX6_nextFrom_15 rfl
  (xv_iconst dX6_nextFrom_16 rfl (inRd rfl)
  (xv_iadd dX6_nextFrom_17
  (xv_goto dX6_nextFrom_18 rfl (xv_ireturn dX6_nextFrom_24 rfl))))))))))))))) l st S I h
def tr_X6_isDoneIn_0 (d : Nat) (Rq : SmQ) (l : SmL) (st : List SmV) (S : SmS) (I : SmI) : Prop :=
  im_aload 0 l st S I fun l st S I =>
  im_iload 1 l st S I fun l st S I =>
  im_ic 4 l st S I fun l st S I =>
  im_p_X6_ofTrain d l st S I fun l st S I =>
  im_ic 2 l st S I fun l st S I =>
  im_ceq l st S I (fun l st S I =>
  im_ic 1 l st S I fun l st S I =>
  im_zreturn Rq l st S I) (fun l st S I =>
  im_aload 0 l st S I fun l st S I =>
  im_iload 1 l st S I fun l st S I =>
  im_ic 4 l st S I fun l st S I =>
  im_p_X6_ofTrain d l st S I fun l st S I =>
  im_ic 1 l st S I fun l st S I =>
  im_cne l st S I (fun l st S I =>
  im_ic 0 l st S I fun l st S I =>
  im_zreturn Rq l st S I) (fun l st S I =>
  im_aload 0 l st S I fun l st S I =>
  im_iload 1 l st S I fun l st S I =>
  im_ic 3 l st S I fun l st S I =>
  im_p_X6_ofTrain d l st S I fun l st S I =>
  im_aload 0 l st S I fun l st S I =>
  im_iload 1 l st S I fun l st S I =>
  im_ic 1 l st S I fun l st S I =>
  im_p_X6_ofTrain d l st S I fun l st S I =>
  im_cne l st S I (fun l st S I =>
  im_ic 0 l st S I fun l st S I =>
  im_zreturn Rq l st S I) (fun l st S I =>
  im_ic 1 l st S I fun l st S I =>
  im_zreturn Rq l st S I)))
theorem rv_X6_isDoneIn_0 {d : Nat} {Rq : SmQ} {l : SmL} {st : List SmV} {S : SmS} {I : SmI} (h : tr_X6_isDoneIn_0 d Rq l st S I) : SW mi_X6_isDoneIn 0 d Rq l st S I :=
  (show SmW mi_X6_isDoneIn 0 d Rq (tr_X6_isDoneIn_0 d Rq) from
  (xv_aload_n dX6_isDoneIn_0 rfl
  (xv_iload_n dX6_isDoneIn_1 rfl
  (xv_iconst dX6_isDoneIn_2 rfl (inRd rfl)
  (xv_p_X6_ofTrain dX6_isDoneIn_3 (lw_V q2003 q2005 qs59 q117 q2006)
  (xv_iconst dX6_isDoneIn_6 rfl (inRd rfl)
  (xv_ceq dX6_isDoneIn_7 rfl
  (xv_iconst dX6_isDoneIn_35 rfl (inRd rfl)
  (xv_goto dX6_isDoneIn_36 rfl (xv_zreturn dX6_isDoneIn_40 rfl)))
  (xv_aload_n dX6_isDoneIn_10 rfl
  (xv_iload_n dX6_isDoneIn_11 rfl
  (xv_iconst dX6_isDoneIn_12 rfl (inRd rfl)
  (xv_p_X6_ofTrain dX6_isDoneIn_13 (lw_V q2003 q2005 qs59 q117 q2006)
  (xv_iconst dX6_isDoneIn_16 rfl (inRd rfl)
  (xv_cne dX6_isDoneIn_17 rfl
  (xv_iconst dX6_isDoneIn_39 rfl (inRd rfl)
  (xv_zreturn dX6_isDoneIn_40 rfl))
  (xv_aload_n dX6_isDoneIn_20 rfl
  (xv_iload_n dX6_isDoneIn_21 rfl
  (xv_iconst dX6_isDoneIn_22 rfl (inRd rfl)
  (xv_p_X6_ofTrain dX6_isDoneIn_23 (lw_V q2003 q2005 qs59 q117 q2006)
  (xv_aload_n dX6_isDoneIn_26 rfl
  (xv_iload_n dX6_isDoneIn_27 rfl
  (xv_iconst dX6_isDoneIn_28 rfl (inRd rfl)
  (xv_p_X6_ofTrain dX6_isDoneIn_29 (lw_V q2003 q2005 qs59 q117 q2006)
  (xv_cne dX6_isDoneIn_32 rfl
  (xv_iconst dX6_isDoneIn_39 rfl (inRd rfl)
  (xv_zreturn dX6_isDoneIn_40 rfl))
  (xv_iconst dX6_isDoneIn_35 rfl (inRd rfl)
  (xv_goto dX6_isDoneIn_36 rfl (xv_zreturn dX6_isDoneIn_40 rfl))))))))))))))))))))))))) l st S I h
def tr_X6_minutesOf_0 (d : Nat) (Rq : SmQ) (l : SmL) (st : List SmV) (S : SmS) (I : SmI) : Prop :=
  im_aload 0 l st S I fun l st S I =>
  im_iload 1 l st S I fun l st S I =>
  im_iload 2 l st S I fun l st S I =>
  im_cge l st S I (fun l st S I =>
  im_iload 2 l st S I fun l st S I =>
  im_ic 4 l st S I fun l st S I =>
  im_p_X6_ofPlace d l st S I fun l st S I =>
  im_ireturn Rq l st S I) (fun l st S I =>
  im_iload 1 l st S I fun l st S I =>
  im_ic 4 l st S I fun l st S I =>
  im_p_X6_ofPlace d l st S I fun l st S I =>
  im_ireturn Rq l st S I)
theorem rv_X6_minutesOf_0 {d : Nat} {Rq : SmQ} {l : SmL} {st : List SmV} {S : SmS} {I : SmI} (h : tr_X6_minutesOf_0 d Rq l st S I) : SW mi_X6_minutesOf 0 d Rq l st S I :=
  (show SmW mi_X6_minutesOf 0 d Rq (tr_X6_minutesOf_0 d Rq) from
  (xv_aload_n dX6_minutesOf_0 rfl
  (xv_iload_n dX6_minutesOf_1 rfl
  (xv_iload_n dX6_minutesOf_2 rfl
  (xv_cge dX6_minutesOf_3 rfl
  (xv_iload_n dX6_minutesOf_10 rfl
  (xv_iconst dX6_minutesOf_11 rfl (inRd rfl)
  (xv_p_X6_ofPlace dX6_minutesOf_12 (lw_V q2041 q2043 qs67 q117 q2044)
  (xv_ireturn dX6_minutesOf_15 rfl))))
  (xv_iload_n dX6_minutesOf_6 rfl
  (xv_goto dX6_minutesOf_7 rfl (xv_iconst dX6_minutesOf_11 rfl (inRd rfl)
  (xv_p_X6_ofPlace dX6_minutesOf_12 (lw_V q2041 q2043 qs67 q117 q2044)
  (xv_ireturn dX6_minutesOf_15 rfl)))))))))) l st S I h
def tr_X6_leftBy_0 (d : Nat) (Rq : SmQ) (l : SmL) (st : List SmV) (S : SmS) (I : SmI) : Prop :=
  im_aload 0 l st S I fun l st S I =>
  im_iload 1 l st S I fun l st S I =>
  im_ic 1 l st S I fun l st S I =>
  im_p_X6_ofTrain d l st S I fun l st S I =>
  im_aload 0 l st S I fun l st S I =>
  im_iload 1 l st S I fun l st S I =>
  im_ic 0 l st S I fun l st S I =>
  im_p_X6_ofTrain d l st S I fun l st S I =>
  im_cle l st S I (fun l st S I =>
  im_aload 0 l st S I fun l st S I =>
  im_iload 1 l st S I fun l st S I =>
  im_ic 3 l st S I fun l st S I =>
  im_p_X6_ofTrain d l st S I fun l st S I =>
  im_ic 1 l st S I fun l st S I =>
  im_iadd l st S I fun l st S I =>
  im_ireturn Rq l st S I) (fun l st S I =>
  im_aload 0 l st S I fun l st S I =>
  im_iload 1 l st S I fun l st S I =>
  im_ic 3 l st S I fun l st S I =>
  im_p_X6_ofTrain d l st S I fun l st S I =>
  im_ic 1 l st S I fun l st S I =>
  im_isub l st S I fun l st S I =>
  im_ireturn Rq l st S I)
theorem rv_X6_leftBy_0 {d : Nat} {Rq : SmQ} {l : SmL} {st : List SmV} {S : SmS} {I : SmI} (h : tr_X6_leftBy_0 d Rq l st S I) : SW mi_X6_leftBy 0 d Rq l st S I :=
  (show SmW mi_X6_leftBy 0 d Rq (tr_X6_leftBy_0 d Rq) from
  (xv_aload_n dX6_leftBy_0 rfl
  (xv_iload_n dX6_leftBy_1 rfl
  (xv_iconst dX6_leftBy_2 rfl (inRd rfl)
  (xv_p_X6_ofTrain dX6_leftBy_3 (lw_V q2003 q2005 qs59 q117 q2006)
  (xv_aload_n dX6_leftBy_6 rfl
  (xv_iload_n dX6_leftBy_7 rfl
  (xv_iconst dX6_leftBy_8 rfl (inRd rfl)
  (xv_p_X6_ofTrain dX6_leftBy_9 (lw_V q2003 q2005 qs59 q117 q2006)
  (xv_cle dX6_leftBy_12 rfl
  (xv_aload_n dX6_leftBy_26 rfl
  (xv_iload_n dX6_leftBy_27 rfl
  (xv_iconst dX6_leftBy_28 rfl (inRd rfl)
  (xv_p_X6_ofTrain dX6_leftBy_29 (lw_V q2003 q2005 qs59 q117 q2006)
  (xv_iconst dX6_leftBy_32 rfl (inRd rfl)
  (xv_iadd dX6_leftBy_33
  (xv_ireturn dX6_leftBy_34 rfl)))))))
  (xv_aload_n dX6_leftBy_15 rfl
  (xv_iload_n dX6_leftBy_16 rfl
  (xv_iconst dX6_leftBy_17 rfl (inRd rfl)
  (xv_p_X6_ofTrain dX6_leftBy_18 (lw_V q2003 q2005 qs59 q117 q2006)
  (xv_iconst dX6_leftBy_21 rfl (inRd rfl)
  (xv_isub dX6_leftBy_22
  (xv_goto dX6_leftBy_23 rfl (xv_ireturn dX6_leftBy_34 rfl)))))))))))))))))) l st S I h
def tr_X6_isPlace_0 (d : Nat) (Rq : SmQ) (l : SmL) (st : List SmV) (S : SmS) (I : SmI) : Prop :=
  im_iload 1 l st S I fun l st S I =>
  im_i2l l st S I fun l st S I =>
  im_lc 0 l st S I fun l st S I =>
  im_aload 0 l st S I fun l st S I =>
  im_getR 11 0 l st S I fun l st S I =>
  im_ic 0 l st S I fun l st S I =>
  im_ald 100 l st S I fun l st S I =>
  im_ic 1 l st S I fun l st S I =>
  im_isub l st S I fun l st S I =>
  im_i2l l st S I fun l st S I =>
  im_p_X6_in d l st S I fun l st S I =>
  im_zreturn Rq l st S I
theorem rv_X6_isPlace_0 {d : Nat} {Rq : SmQ} {l : SmL} {st : List SmV} {S : SmS} {I : SmI} (h : tr_X6_isPlace_0 d Rq l st S I) : SW mi_X6_isPlace 0 d Rq l st S I :=
  (show SmW mi_X6_isPlace 0 d Rq (tr_X6_isPlace_0 d Rq) from
  (xv_iload_n dX6_isPlace_0 rfl
  (xv_i2l dX6_isPlace_1
  (xv_lconst dX6_isPlace_2 rfl (inR64d rfl)
  (xv_aload_n dX6_isPlace_3 rfl
  (xv_getR (k := 0) dX6_isPlace_4 cl_11 tg_11 in_X6 (Nat.le_of_ble_eq_true rfl) rfl q1862
  (xv_iconst dX6_isPlace_7 rfl (inRd rfl)
  (xv_iald dX6_isPlace_8
  (xv_iconst dX6_isPlace_9 rfl (inRd rfl)
  (xv_isub dX6_isPlace_10
  (xv_i2l dX6_isPlace_11
  (xv_p_X6_in dX6_isPlace_12 (lw_S q1940 q1941 q117 q1942)
  (xv_zreturn dX6_isPlace_15 rfl))))))))))))) l st S I h
def tr_X6_isTrain_0 (d : Nat) (Rq : SmQ) (l : SmL) (st : List SmV) (S : SmS) (I : SmI) : Prop :=
  im_iload 1 l st S I fun l st S I =>
  im_i2l l st S I fun l st S I =>
  im_lc 0 l st S I fun l st S I =>
  im_aload 0 l st S I fun l st S I =>
  im_getR 11 0 l st S I fun l st S I =>
  im_ic 1 l st S I fun l st S I =>
  im_ald 100 l st S I fun l st S I =>
  im_ic 1 l st S I fun l st S I =>
  im_isub l st S I fun l st S I =>
  im_i2l l st S I fun l st S I =>
  im_p_X6_in d l st S I fun l st S I =>
  im_zreturn Rq l st S I
theorem rv_X6_isTrain_0 {d : Nat} {Rq : SmQ} {l : SmL} {st : List SmV} {S : SmS} {I : SmI} (h : tr_X6_isTrain_0 d Rq l st S I) : SW mi_X6_isTrain 0 d Rq l st S I :=
  (show SmW mi_X6_isTrain 0 d Rq (tr_X6_isTrain_0 d Rq) from
  (xv_iload_n dX6_isTrain_0 rfl
  (xv_i2l dX6_isTrain_1
  (xv_lconst dX6_isTrain_2 rfl (inR64d rfl)
  (xv_aload_n dX6_isTrain_3 rfl
  (xv_getR (k := 0) dX6_isTrain_4 cl_11 tg_11 in_X6 (Nat.le_of_ble_eq_true rfl) rfl q1862
  (xv_iconst dX6_isTrain_7 rfl (inRd rfl)
  (xv_iald dX6_isTrain_8
  (xv_iconst dX6_isTrain_9 rfl (inRd rfl)
  (xv_isub dX6_isTrain_10
  (xv_i2l dX6_isTrain_11
  (xv_p_X6_in dX6_isTrain_12 (lw_S q1940 q1941 q117 q1942)
  (xv_zreturn dX6_isTrain_15 rfl))))))))))))) l st S I h
def tr_X6_isSheet_0 (d : Nat) (Rq : SmQ) (l : SmL) (st : List SmV) (S : SmS) (I : SmI) : Prop :=
  im_iload 0 l st S I fun l st S I =>
  im_i2l l st S I fun l st S I =>
  im_lc 0 l st S I fun l st S I =>
  im_lc 3 l st S I fun l st S I =>
  im_p_X6_in d l st S I fun l st S I =>
  im_zeq l st S I (fun l st S I =>
  im_ic 0 l st S I fun l st S I =>
  im_zreturn Rq l st S I) (fun l st S I =>
  im_iload 1 l st S I fun l st S I =>
  im_i2l l st S I fun l st S I =>
  im_lc 0 l st S I fun l st S I =>
  im_lc 2 l st S I fun l st S I =>
  im_p_X6_in d l st S I fun l st S I =>
  im_zeq l st S I (fun l st S I =>
  im_ic 0 l st S I fun l st S I =>
  im_zreturn Rq l st S I) (fun l st S I =>
  im_ic 1 l st S I fun l st S I =>
  im_zreturn Rq l st S I))
theorem rv_X6_isSheet_0 {d : Nat} {Rq : SmQ} {l : SmL} {st : List SmV} {S : SmS} {I : SmI} (h : tr_X6_isSheet_0 d Rq l st S I) : SW mi_X6_isSheet 0 d Rq l st S I :=
  (show SmW mi_X6_isSheet 0 d Rq (tr_X6_isSheet_0 d Rq) from
  (xv_iload_n dX6_isSheet_0 rfl
  (xv_i2l dX6_isSheet_1
  (xv_lconst dX6_isSheet_2 rfl (inR64d rfl)
  (xv_ldc2 dX6_isSheet_3 q2270 rfl (inR64d rfl)
  (xv_p_X6_in dX6_isSheet_6 (lw_S q1940 q1941 q117 q1942)
  (xv_zeq dX6_isSheet_9 rfl
  (xv_iconst dX6_isSheet_28 rfl (inRd rfl)
  (xv_zreturn dX6_isSheet_29 rfl))
  (xv_iload_n dX6_isSheet_12 rfl
  (xv_i2l dX6_isSheet_13
  (xv_lconst dX6_isSheet_14 rfl (inR64d rfl)
  (xv_ldc2 dX6_isSheet_15 q2177 rfl (inR64d rfl)
  (xv_p_X6_in dX6_isSheet_18 (lw_S q1940 q1941 q117 q1942)
  (xv_zeq dX6_isSheet_21 rfl
  (xv_iconst dX6_isSheet_28 rfl (inRd rfl)
  (xv_zreturn dX6_isSheet_29 rfl))
  (xv_iconst dX6_isSheet_24 rfl (inRd rfl)
  (xv_goto dX6_isSheet_25 rfl (xv_zreturn dX6_isSheet_29 rfl)))))))))))))))) l st S I h
def tr_X6_is_0 (d : Nat) (Rq : SmQ) (l : SmL) (st : List SmV) (S : SmS) (I : SmI) : Prop :=
  im_aload 0 l st S I fun l st S I =>
  im_getI 11 9 l st S I fun l st S I =>
  im_ic 1 l st S I fun l st S I =>
  im_cne l st S I (fun l st S I =>
  im_ic 0 l st S I fun l st S I =>
  im_zreturn Rq l st S I) (fun l st S I =>
  im_aload 0 l st S I fun l st S I =>
  im_getI 11 7 l st S I fun l st S I =>
  im_aload 0 l st S I fun l st S I =>
  im_getI 11 8 l st S I fun l st S I =>
  im_isub l st S I fun l st S I =>
  im_iload 1 l st S I fun l st S I =>
  im_cne l st S I (fun l st S I =>
  im_ic 0 l st S I fun l st S I =>
  im_zreturn Rq l st S I) (fun l st S I =>
  im_aload 0 l st S I fun l st S I =>
  im_aload 0 l st S I fun l st S I =>
  im_getI 11 8 l st S I fun l st S I =>
  im_iload 2 l st S I fun l st S I =>
  im_iadd l st S I fun l st S I =>
  im_p_X6_byteAt d l st S I fun l st S I =>
  im_iload 3 l st S I fun l st S I =>
  im_cne l st S I (fun l st S I =>
  im_ic 0 l st S I fun l st S I =>
  im_zreturn Rq l st S I) (fun l st S I =>
  im_aload 0 l st S I fun l st S I =>
  im_aload 0 l st S I fun l st S I =>
  im_getI 11 8 l st S I fun l st S I =>
  im_iload 2 l st S I fun l st S I =>
  im_iadd l st S I fun l st S I =>
  im_ic 1 l st S I fun l st S I =>
  im_iadd l st S I fun l st S I =>
  im_p_X6_byteAt d l st S I fun l st S I =>
  im_iload 4 l st S I fun l st S I =>
  im_cne l st S I (fun l st S I =>
  im_ic 0 l st S I fun l st S I =>
  im_zreturn Rq l st S I) (fun l st S I =>
  im_aload 0 l st S I fun l st S I =>
  im_aload 0 l st S I fun l st S I =>
  im_getI 11 8 l st S I fun l st S I =>
  im_iload 2 l st S I fun l st S I =>
  im_iadd l st S I fun l st S I =>
  im_ic 2 l st S I fun l st S I =>
  im_iadd l st S I fun l st S I =>
  im_p_X6_byteAt d l st S I fun l st S I =>
  im_iload 5 l st S I fun l st S I =>
  im_cne l st S I (fun l st S I =>
  im_ic 0 l st S I fun l st S I =>
  im_zreturn Rq l st S I) (fun l st S I =>
  im_ic 1 l st S I fun l st S I =>
  im_zreturn Rq l st S I)))))
theorem rv_X6_is_0 {d : Nat} {Rq : SmQ} {l : SmL} {st : List SmV} {S : SmS} {I : SmI} (h : tr_X6_is_0 d Rq l st S I) : SW mi_X6_is 0 d Rq l st S I :=
  (show SmW mi_X6_is 0 d Rq (tr_X6_is_0 d Rq) from
  (xv_aload_n dX6_is_0 rfl
  (xv_getI (k := 9) dX6_is_1 cl_11 tg_11 in_X6 (Nat.le_of_ble_eq_true rfl) rfl q1871
  (xv_iconst dX6_is_4 rfl (inRd rfl)
  (xv_cne dX6_is_5 rfl
  (xv_iconst dX6_is_73 rfl (inRd rfl)
  (xv_zreturn dX6_is_74 rfl))
  (xv_aload_n dX6_is_8 rfl
  (xv_getI (k := 7) dX6_is_9 cl_11 tg_11 in_X6 (Nat.le_of_ble_eq_true rfl) rfl q1869
  (xv_aload_n dX6_is_12 rfl
  (xv_getI (k := 8) dX6_is_13 cl_11 tg_11 in_X6 (Nat.le_of_ble_eq_true rfl) rfl q1870
  (xv_isub dX6_is_16
  (xv_iload_n dX6_is_17 rfl
  (xv_cne dX6_is_18 rfl
  (xv_iconst dX6_is_73 rfl (inRd rfl)
  (xv_zreturn dX6_is_74 rfl))
  (xv_aload_n dX6_is_21 rfl
  (xv_aload_n dX6_is_22 rfl
  (xv_getI (k := 8) dX6_is_23 cl_11 tg_11 in_X6 (Nat.le_of_ble_eq_true rfl) rfl q1870
  (xv_iload_n dX6_is_26 rfl
  (xv_iadd dX6_is_27
  (xv_p_X6_byteAt dX6_is_28 (lw_V q1955 q1957 qs48 q117 q1958)
  (xv_iload_n dX6_is_31 rfl
  (xv_cne dX6_is_32 rfl
  (xv_iconst dX6_is_73 rfl (inRd rfl)
  (xv_zreturn dX6_is_74 rfl))
  (xv_aload_n dX6_is_35 rfl
  (xv_aload_n dX6_is_36 rfl
  (xv_getI (k := 8) dX6_is_37 cl_11 tg_11 in_X6 (Nat.le_of_ble_eq_true rfl) rfl q1870
  (xv_iload_n dX6_is_40 rfl
  (xv_iadd dX6_is_41
  (xv_iconst dX6_is_42 rfl (inRd rfl)
  (xv_iadd dX6_is_43
  (xv_p_X6_byteAt dX6_is_44 (lw_V q1955 q1957 qs48 q117 q1958)
  (xv_iload dX6_is_47
  (xv_cne dX6_is_49 rfl
  (xv_iconst dX6_is_73 rfl (inRd rfl)
  (xv_zreturn dX6_is_74 rfl))
  (xv_aload_n dX6_is_52 rfl
  (xv_aload_n dX6_is_53 rfl
  (xv_getI (k := 8) dX6_is_54 cl_11 tg_11 in_X6 (Nat.le_of_ble_eq_true rfl) rfl q1870
  (xv_iload_n dX6_is_57 rfl
  (xv_iadd dX6_is_58
  (xv_iconst dX6_is_59 rfl (inRd rfl)
  (xv_iadd dX6_is_60
  (xv_p_X6_byteAt dX6_is_61 (lw_V q1955 q1957 qs48 q117 q1958)
  (xv_iload dX6_is_64
  (xv_cne dX6_is_66 rfl
  (xv_iconst dX6_is_73 rfl (inRd rfl)
  (xv_zreturn dX6_is_74 rfl))
  (xv_iconst dX6_is_69 rfl (inRd rfl)
  (xv_goto dX6_is_70 rfl (xv_zreturn dX6_is_74 rfl))))))))))))))))))))))))))))))))))))))))))) l st S I h
def tr_X6_hasRoom_0 (d : Nat) (Rq : SmQ) (l : SmL) (st : List SmV) (S : SmS) (I : SmI) : Prop :=
  im_iload 1 l st S I fun l st S I =>
  im_zne l st S I (fun l st S I =>
  im_iload 1 l st S I fun l st S I =>
  im_ic 2 l st S I fun l st S I =>
  im_cne l st S I (fun l st S I =>
  im_aload 0 l st S I fun l st S I =>
  im_getR 11 1 l st S I fun l st S I =>
  im_ic 0 l st S I fun l st S I =>
  im_ald 100 l st S I fun l st S I =>
  im_zle l st S I (fun l st S I =>
  im_ic 0 l st S I fun l st S I =>
  im_zreturn Rq l st S I) (fun l st S I =>
  im_ic 1 l st S I fun l st S I =>
  im_zreturn Rq l st S I)) (fun l st S I =>
  im_aload 0 l st S I fun l st S I =>
  im_getR 11 1 l st S I fun l st S I =>
  im_ic 1 l st S I fun l st S I =>
  im_ald 100 l st S I fun l st S I =>
  im_ic 4 l st S I fun l st S I =>
  im_cge l st S I (fun l st S I =>
  im_ic 0 l st S I fun l st S I =>
  im_zreturn Rq l st S I) (fun l st S I =>
  im_ic 1 l st S I fun l st S I =>
  im_zreturn Rq l st S I))) (fun l st S I =>
  im_aload 0 l st S I fun l st S I =>
  im_getR 11 1 l st S I fun l st S I =>
  im_ic 0 l st S I fun l st S I =>
  im_ald 100 l st S I fun l st S I =>
  im_ic 6 l st S I fun l st S I =>
  im_cge l st S I (fun l st S I =>
  im_ic 0 l st S I fun l st S I =>
  im_zreturn Rq l st S I) (fun l st S I =>
  im_ic 1 l st S I fun l st S I =>
  im_zreturn Rq l st S I))
theorem rv_X6_hasRoom_0 {d : Nat} {Rq : SmQ} {l : SmL} {st : List SmV} {S : SmS} {I : SmI} (h : tr_X6_hasRoom_0 d Rq l st S I) : SW mi_X6_hasRoom 0 d Rq l st S I :=
  (show SmW mi_X6_hasRoom 0 d Rq (tr_X6_hasRoom_0 d Rq) from
  (xv_iload_n dX6_hasRoom_0 rfl
  (xv_zne dX6_hasRoom_1 rfl
  (xv_iload_n dX6_hasRoom_23 rfl
  (xv_iconst dX6_hasRoom_24 rfl (inRd rfl)
  (xv_cne dX6_hasRoom_25 rfl
  (xv_aload_n dX6_hasRoom_46 rfl
  (xv_getR (k := 1) dX6_hasRoom_47 cl_11 tg_11 in_X6 (Nat.le_of_ble_eq_true rfl) rfl q1863
  (xv_iconst dX6_hasRoom_50 rfl (inRd rfl)
  (xv_iald dX6_hasRoom_51
  (xv_zle dX6_hasRoom_52 rfl
  (xv_iconst dX6_hasRoom_59 rfl (inRd rfl)
  (xv_zreturn dX6_hasRoom_60 rfl))
  (xv_iconst dX6_hasRoom_55 rfl (inRd rfl)
  (xv_goto dX6_hasRoom_56 rfl (xv_zreturn dX6_hasRoom_60 rfl))))))))
  (xv_aload_n dX6_hasRoom_28 rfl
  (xv_getR (k := 1) dX6_hasRoom_29 cl_11 tg_11 in_X6 (Nat.le_of_ble_eq_true rfl) rfl q1863
  (xv_iconst dX6_hasRoom_32 rfl (inRd rfl)
  (xv_iald dX6_hasRoom_33
  (xv_iconst dX6_hasRoom_34 rfl (inRd rfl)
  (xv_cge dX6_hasRoom_35 rfl
  (xv_iconst dX6_hasRoom_42 rfl (inRd rfl)
  (xv_goto dX6_hasRoom_43 rfl (xv_zreturn dX6_hasRoom_60 rfl)))
  (xv_iconst dX6_hasRoom_38 rfl (inRd rfl)
  (xv_goto dX6_hasRoom_39 rfl (xv_zreturn dX6_hasRoom_60 rfl))))))))))))
  (xv_aload_n dX6_hasRoom_4 rfl
  (xv_getR (k := 1) dX6_hasRoom_5 cl_11 tg_11 in_X6 (Nat.le_of_ble_eq_true rfl) rfl q1863
  (xv_iconst dX6_hasRoom_8 rfl (inRd rfl)
  (xv_iald dX6_hasRoom_9
  (xv_bipush dX6_hasRoom_10 rfl (inRd rfl)
  (xv_cge dX6_hasRoom_12 rfl
  (xv_iconst dX6_hasRoom_19 rfl (inRd rfl)
  (xv_goto dX6_hasRoom_20 rfl (xv_zreturn dX6_hasRoom_60 rfl)))
  (xv_iconst dX6_hasRoom_15 rfl (inRd rfl)
  (xv_goto dX6_hasRoom_16 rfl (xv_zreturn dX6_hasRoom_60 rfl)))))))))))) l st S I h
def tr_X6_encode_0 (d : Nat) (Rq : SmQ) (l : SmL) (st : List SmV) (S : SmS) (I : SmI) : Prop :=
  im_ic 0 l st S I fun l st S I =>
  im_istore 1 l st S I fun l st S I =>
  im_ic 0 l st S I fun l st S I =>
  im_istore 2 l st S I fun l st S I =>
  SW mi_X6_encode 4 d Rq l st S I
theorem rv_X6_encode_0 {d : Nat} {Rq : SmQ} {l : SmL} {st : List SmV} {S : SmS} {I : SmI} (h : tr_X6_encode_0 d Rq l st S I) : SW mi_X6_encode 0 d Rq l st S I :=
  (show SmW mi_X6_encode 0 d Rq (tr_X6_encode_0 d Rq) from
  (xv_iconst dX6_encode_0 rfl (inRd rfl)
  (xv_istore_n dX6_encode_1 rfl (Nat.le_of_ble_eq_true rfl)
  (xv_iconst dX6_encode_2 rfl (inRd rfl)
  (xv_istore_n dX6_encode_3 rfl (Nat.le_of_ble_eq_true rfl)
  (fun _ _ _ _ h => h)))))) l st S I h
def tr_X6_encode_4 (d : Nat) (Rq : SmQ) (l : SmL) (st : List SmV) (S : SmS) (I : SmI) : Prop :=
  im_iload 2 l st S I fun l st S I =>
  im_ic 4 l st S I fun l st S I =>
  im_cge l st S I (fun l st S I =>
  im_iload 1 l st S I fun l st S I =>
  im_ireturn Rq l st S I) (fun l st S I =>
  im_iload 1 l st S I fun l st S I =>
  im_iload 2 l st S I fun l st S I =>
  im_p_X6_weightOf d l st S I fun l st S I =>
  im_aload 0 l st S I fun l st S I =>
  im_getR 11 13 l st S I fun l st S I =>
  im_iload 2 l st S I fun l st S I =>
  im_ald 100 l st S I fun l st S I =>
  im_imul l st S I fun l st S I =>
  im_iadd l st S I fun l st S I =>
  im_istore 1 l st S I fun l st S I =>
  im_iinc 2 1 l st S I fun l st S I =>
  SW mi_X6_encode 4 d Rq l st S I)
theorem rv_X6_encode_4 {d : Nat} {Rq : SmQ} {l : SmL} {st : List SmV} {S : SmS} {I : SmI} (h : tr_X6_encode_4 d Rq l st S I) : SW mi_X6_encode 4 d Rq l st S I :=
  (show SmW mi_X6_encode 4 d Rq (tr_X6_encode_4 d Rq) from
  (xv_iload_n dX6_encode_4 rfl
  (xv_iconst dX6_encode_5 rfl (inRd rfl)
  (xv_cge dX6_encode_6 rfl
  (xv_iload_n dX6_encode_29 rfl
  (xv_ireturn dX6_encode_30 rfl))
  (xv_iload_n dX6_encode_9 rfl
  (xv_iload_n dX6_encode_10 rfl
  (xv_p_X6_weightOf dX6_encode_11 (lw_S q2019 q2020 q117 q2021)
  (xv_aload_n dX6_encode_14 rfl
  (xv_getR (k := 13) dX6_encode_15 cl_11 tg_11 in_X6 (Nat.le_of_ble_eq_true rfl) rfl q1875
  (xv_iload_n dX6_encode_18 rfl
  (xv_iald dX6_encode_19
  (xv_imul dX6_encode_20
  (xv_iadd dX6_encode_21
  (xv_istore_n dX6_encode_22 rfl (Nat.le_of_ble_eq_true rfl)
  (xv_iinc dX6_encode_23 (Nat.le_of_ble_eq_true rfl)
  (xv_goto dX6_encode_26 rfl (fun _ _ _ _ h => h))))))))))))))))) l st S I h
def tr_X6_decode_0 (d : Nat) (Rq : SmQ) (l : SmL) (st : List SmV) (S : SmS) (I : SmI) : Prop :=
  im_ic 0 l st S I fun l st S I =>
  im_istore 2 l st S I fun l st S I =>
  SW mi_X6_decode 2 d Rq l st S I
theorem rv_X6_decode_0 {d : Nat} {Rq : SmQ} {l : SmL} {st : List SmV} {S : SmS} {I : SmI} (h : tr_X6_decode_0 d Rq l st S I) : SW mi_X6_decode 0 d Rq l st S I :=
  (show SmW mi_X6_decode 0 d Rq (tr_X6_decode_0 d Rq) from
  (xv_iconst dX6_decode_0 rfl (inRd rfl)
  (xv_istore_n dX6_decode_1 rfl (Nat.le_of_ble_eq_true rfl)
  (fun _ _ _ _ h => h)))) l st S I h
def tr_X6_decode_2 (d : Nat) (Rq : SmQ) (l : SmL) (st : List SmV) (S : SmS) (I : SmI) : Prop :=
  im_iload 2 l st S I fun l st S I =>
  im_ic 4 l st S I fun l st S I =>
  im_cge l st S I (fun l st S I =>
  im_return Rq l st S I) (fun l st S I =>
  im_aload 0 l st S I fun l st S I =>
  im_getR 11 13 l st S I fun l st S I =>
  im_iload 2 l st S I fun l st S I =>
  im_iload 1 l st S I fun l st S I =>
  im_iload 2 l st S I fun l st S I =>
  im_p_X6_weightOf d l st S I fun l st S I =>
  im_idiv l st S I fun l st S I =>
  im_ic 7 l st S I fun l st S I =>
  im_irem l st S I fun l st S I =>
  im_iast l st S I fun l st S I =>
  im_iinc 2 1 l st S I fun l st S I =>
  SW mi_X6_decode 2 d Rq l st S I)
theorem rv_X6_decode_2 {d : Nat} {Rq : SmQ} {l : SmL} {st : List SmV} {S : SmS} {I : SmI} (h : tr_X6_decode_2 d Rq l st S I) : SW mi_X6_decode 2 d Rq l st S I :=
  (show SmW mi_X6_decode 2 d Rq (tr_X6_decode_2 d Rq) from
  (xv_iload_n dX6_decode_2 rfl
  (xv_iconst dX6_decode_3 rfl (inRd rfl)
  (xv_cge dX6_decode_4 rfl
  (xv_return dX6_decode_28 rfl)
  (xv_aload_n dX6_decode_7 rfl
  (xv_getR (k := 13) dX6_decode_8 cl_11 tg_11 in_X6 (Nat.le_of_ble_eq_true rfl) rfl q1875
  (xv_iload_n dX6_decode_11 rfl
  (xv_iload_n dX6_decode_12 rfl
  (xv_iload_n dX6_decode_13 rfl
  (xv_p_X6_weightOf dX6_decode_14 (lw_S q2019 q2020 q117 q2021)
  (xv_idiv dX6_decode_17
  (xv_bipush dX6_decode_18 rfl (inRd rfl)
  (xv_irem dX6_decode_20
  (xv_iast dX6_decode_21
  (xv_iinc dX6_decode_22 (Nat.le_of_ble_eq_true rfl)
  (xv_goto dX6_decode_25 rfl (fun _ _ _ _ h => h))))))))))))))))) l st S I h
def tr_X6_withStatus_0 (d : Nat) (Rq : SmQ) (l : SmL) (st : List SmV) (S : SmS) (I : SmI) : Prop :=
  im_ic 0 l st S I fun l st S I =>
  im_istore 2 l st S I fun l st S I =>
  im_ic 0 l st S I fun l st S I =>
  im_istore 3 l st S I fun l st S I =>
  SW mi_X6_withStatus 4 d Rq l st S I
theorem rv_X6_withStatus_0 {d : Nat} {Rq : SmQ} {l : SmL} {st : List SmV} {S : SmS} {I : SmI} (h : tr_X6_withStatus_0 d Rq l st S I) : SW mi_X6_withStatus 0 d Rq l st S I :=
  (show SmW mi_X6_withStatus 0 d Rq (tr_X6_withStatus_0 d Rq) from
  (xv_iconst dX6_withStatus_0 rfl (inRd rfl)
  (xv_istore_n dX6_withStatus_1 rfl (Nat.le_of_ble_eq_true rfl)
  (xv_iconst dX6_withStatus_2 rfl (inRd rfl)
  (xv_istore_n dX6_withStatus_3 rfl (Nat.le_of_ble_eq_true rfl)
  (fun _ _ _ _ h => h)))))) l st S I h
def tr_X6_withStatus_4 (d : Nat) (Rq : SmQ) (l : SmL) (st : List SmV) (S : SmS) (I : SmI) : Prop :=
  im_iload 3 l st S I fun l st S I =>
  im_aload 0 l st S I fun l st S I =>
  im_getR 11 0 l st S I fun l st S I =>
  im_ic 1 l st S I fun l st S I =>
  im_ald 100 l st S I fun l st S I =>
  im_cge l st S I (fun l st S I =>
  im_iload 2 l st S I fun l st S I =>
  im_ireturn Rq l st S I) (fun l st S I =>
  im_iload 2 l st S I fun l st S I =>
  im_aload 0 l st S I fun l st S I =>
  im_iload 3 l st S I fun l st S I =>
  im_ic 4 l st S I fun l st S I =>
  im_p_X6_ofTrain d l st S I fun l st S I =>
  im_iload 1 l st S I fun l st S I =>
  im_cne l st S I (fun l st S I =>
  im_ic 0 l st S I fun l st S I =>
  im_p_X6_flag d l st S I fun l st S I =>
  im_iadd l st S I fun l st S I =>
  im_istore 2 l st S I fun l st S I =>
  im_iinc 3 1 l st S I fun l st S I =>
  SW mi_X6_withStatus 4 d Rq l st S I) (fun l st S I =>
  im_ic 1 l st S I fun l st S I =>
  im_p_X6_flag d l st S I fun l st S I =>
  im_iadd l st S I fun l st S I =>
  im_istore 2 l st S I fun l st S I =>
  im_iinc 3 1 l st S I fun l st S I =>
  SW mi_X6_withStatus 4 d Rq l st S I))
theorem rv_X6_withStatus_4 {d : Nat} {Rq : SmQ} {l : SmL} {st : List SmV} {S : SmS} {I : SmI} (h : tr_X6_withStatus_4 d Rq l st S I) : SW mi_X6_withStatus 4 d Rq l st S I :=
  (show SmW mi_X6_withStatus 4 d Rq (tr_X6_withStatus_4 d Rq) from
  (xv_iload_n dX6_withStatus_4 rfl
  (xv_aload_n dX6_withStatus_5 rfl
  (xv_getR (k := 0) dX6_withStatus_6 cl_11 tg_11 in_X6 (Nat.le_of_ble_eq_true rfl) rfl q1862
  (xv_iconst dX6_withStatus_9 rfl (inRd rfl)
  (xv_iald dX6_withStatus_10
  (xv_cge dX6_withStatus_11 rfl
  (xv_iload_n dX6_withStatus_41 rfl
  (xv_ireturn dX6_withStatus_42 rfl))
  (xv_iload_n dX6_withStatus_14 rfl
  (xv_aload_n dX6_withStatus_15 rfl
  (xv_iload_n dX6_withStatus_16 rfl
  (xv_iconst dX6_withStatus_17 rfl (inRd rfl)
  (xv_p_X6_ofTrain dX6_withStatus_18 (lw_V q2003 q2005 qs59 q117 q2006)
  (xv_iload_n dX6_withStatus_21 rfl
  (xv_cne dX6_withStatus_22 rfl
  (xv_iconst dX6_withStatus_29 rfl (inRd rfl)
  (xv_p_X6_flag dX6_withStatus_30 (lw_S q2034 q2035 q117 q2036)
  (xv_iadd dX6_withStatus_33
  (xv_istore_n dX6_withStatus_34 rfl (Nat.le_of_ble_eq_true rfl)
  (xv_iinc dX6_withStatus_35 (Nat.le_of_ble_eq_true rfl)
  (xv_goto dX6_withStatus_38 rfl (fun _ _ _ _ h => h)))))))
  (xv_iconst dX6_withStatus_25 rfl (inRd rfl)
  (xv_goto dX6_withStatus_26 rfl (xv_p_X6_flag dX6_withStatus_30 (lw_S q2034 q2035 q117 q2036)
  (xv_iadd dX6_withStatus_33
  (xv_istore_n dX6_withStatus_34 rfl (Nat.le_of_ble_eq_true rfl)
  (xv_iinc dX6_withStatus_35 (Nat.le_of_ble_eq_true rfl)
  (xv_goto dX6_withStatus_38 rfl (fun _ _ _ _ h => h)))))))))))))))))))))) l st S I h
def tr_X6_movesLeft_0 (d : Nat) (Rq : SmQ) (l : SmL) (st : List SmV) (S : SmS) (I : SmI) : Prop :=
  im_ic 0 l st S I fun l st S I =>
  im_istore 1 l st S I fun l st S I =>
  im_ic 0 l st S I fun l st S I =>
  im_istore 2 l st S I fun l st S I =>
  SW mi_X6_movesLeft 4 d Rq l st S I
theorem rv_X6_movesLeft_0 {d : Nat} {Rq : SmQ} {l : SmL} {st : List SmV} {S : SmS} {I : SmI} (h : tr_X6_movesLeft_0 d Rq l st S I) : SW mi_X6_movesLeft 0 d Rq l st S I :=
  (show SmW mi_X6_movesLeft 0 d Rq (tr_X6_movesLeft_0 d Rq) from
  (xv_iconst dX6_movesLeft_0 rfl (inRd rfl)
  (xv_istore_n dX6_movesLeft_1 rfl (Nat.le_of_ble_eq_true rfl)
  (xv_iconst dX6_movesLeft_2 rfl (inRd rfl)
  (xv_istore_n dX6_movesLeft_3 rfl (Nat.le_of_ble_eq_true rfl)
  (fun _ _ _ _ h => h)))))) l st S I h
def tr_X6_movesLeft_4 (d : Nat) (Rq : SmQ) (l : SmL) (st : List SmV) (S : SmS) (I : SmI) : Prop :=
  im_iload 2 l st S I fun l st S I =>
  im_aload 0 l st S I fun l st S I =>
  im_getR 11 0 l st S I fun l st S I =>
  im_ic 1 l st S I fun l st S I =>
  im_ald 100 l st S I fun l st S I =>
  im_cge l st S I (fun l st S I =>
  im_iload 1 l st S I fun l st S I =>
  im_ireturn Rq l st S I) (fun l st S I =>
  im_aload 0 l st S I fun l st S I =>
  im_iload 2 l st S I fun l st S I =>
  im_ic 1 l st S I fun l st S I =>
  im_p_X6_ofTrain d l st S I fun l st S I =>
  im_aload 0 l st S I fun l st S I =>
  im_iload 2 l st S I fun l st S I =>
  im_ic 3 l st S I fun l st S I =>
  im_p_X6_ofTrain d l st S I fun l st S I =>
  im_isub l st S I fun l st S I =>
  im_istore 3 l st S I fun l st S I =>
  im_iload 1 l st S I fun l st S I =>
  im_aload 0 l st S I fun l st S I =>
  im_iload 2 l st S I fun l st S I =>
  im_ic 4 l st S I fun l st S I =>
  im_p_X6_ofTrain d l st S I fun l st S I =>
  im_ic 2 l st S I fun l st S I =>
  im_cne l st S I (fun l st S I =>
  im_iload 3 l st S I fun l st S I =>
  im_zge l st S I (fun l st S I =>
  im_iload 3 l st S I fun l st S I =>
  im_iadd l st S I fun l st S I =>
  im_istore 1 l st S I fun l st S I =>
  im_iinc 2 1 l st S I fun l st S I =>
  SW mi_X6_movesLeft 4 d Rq l st S I) (fun l st S I =>
  im_iload 3 l st S I fun l st S I =>
  im_ineg l st S I fun l st S I =>
  im_iadd l st S I fun l st S I =>
  im_istore 1 l st S I fun l st S I =>
  im_iinc 2 1 l st S I fun l st S I =>
  SW mi_X6_movesLeft 4 d Rq l st S I)) (fun l st S I =>
  im_ic 0 l st S I fun l st S I =>
  im_iadd l st S I fun l st S I =>
  im_istore 1 l st S I fun l st S I =>
  im_iinc 2 1 l st S I fun l st S I =>
  SW mi_X6_movesLeft 4 d Rq l st S I))
theorem rv_X6_movesLeft_4 {d : Nat} {Rq : SmQ} {l : SmL} {st : List SmV} {S : SmS} {I : SmI} (h : tr_X6_movesLeft_4 d Rq l st S I) : SW mi_X6_movesLeft 4 d Rq l st S I :=
  (show SmW mi_X6_movesLeft 4 d Rq (tr_X6_movesLeft_4 d Rq) from
  (xv_iload_n dX6_movesLeft_4 rfl
  (xv_aload_n dX6_movesLeft_5 rfl
  (xv_getR (k := 0) dX6_movesLeft_6 cl_11 tg_11 in_X6 (Nat.le_of_ble_eq_true rfl) rfl q1862
  (xv_iconst dX6_movesLeft_9 rfl (inRd rfl)
  (xv_iald dX6_movesLeft_10
  (xv_cge dX6_movesLeft_11 rfl
  (xv_iload_n dX6_movesLeft_61 rfl
  (xv_ireturn dX6_movesLeft_62 rfl))
  (xv_aload_n dX6_movesLeft_14 rfl
  (xv_iload_n dX6_movesLeft_15 rfl
  (xv_iconst dX6_movesLeft_16 rfl (inRd rfl)
  (xv_p_X6_ofTrain dX6_movesLeft_17 (lw_V q2003 q2005 qs59 q117 q2006)
  (xv_aload_n dX6_movesLeft_20 rfl
  (xv_iload_n dX6_movesLeft_21 rfl
  (xv_iconst dX6_movesLeft_22 rfl (inRd rfl)
  (xv_p_X6_ofTrain dX6_movesLeft_23 (lw_V q2003 q2005 qs59 q117 q2006)
  (xv_isub dX6_movesLeft_26
  (xv_istore_n dX6_movesLeft_27 rfl (Nat.le_of_ble_eq_true rfl)
  (xv_iload_n dX6_movesLeft_28 rfl
  (xv_aload_n dX6_movesLeft_29 rfl
  (xv_iload_n dX6_movesLeft_30 rfl
  (xv_iconst dX6_movesLeft_31 rfl (inRd rfl)
  (xv_p_X6_ofTrain dX6_movesLeft_32 (lw_V q2003 q2005 qs59 q117 q2006)
  (xv_iconst dX6_movesLeft_35 rfl (inRd rfl)
  (xv_cne dX6_movesLeft_36 rfl
  (xv_iload_n dX6_movesLeft_43 rfl
  (xv_zge dX6_movesLeft_44 rfl
  (xv_iload_n dX6_movesLeft_52 rfl
  (xv_iadd dX6_movesLeft_53
  (xv_istore_n dX6_movesLeft_54 rfl (Nat.le_of_ble_eq_true rfl)
  (xv_iinc dX6_movesLeft_55 (Nat.le_of_ble_eq_true rfl)
  (xv_goto dX6_movesLeft_58 rfl (fun _ _ _ _ h => h))))))
  (xv_iload_n dX6_movesLeft_47 rfl
  (xv_ineg dX6_movesLeft_48
  (xv_goto dX6_movesLeft_49 rfl (xv_iadd dX6_movesLeft_53
  (xv_istore_n dX6_movesLeft_54 rfl (Nat.le_of_ble_eq_true rfl)
  (xv_iinc dX6_movesLeft_55 (Nat.le_of_ble_eq_true rfl)
  (xv_goto dX6_movesLeft_58 rfl (fun _ _ _ _ h => h))))))))))
  (xv_iconst dX6_movesLeft_39 rfl (inRd rfl)
  (xv_goto dX6_movesLeft_40 rfl (xv_iadd dX6_movesLeft_53
  (xv_istore_n dX6_movesLeft_54 rfl (Nat.le_of_ble_eq_true rfl)
  (xv_iinc dX6_movesLeft_55 (Nat.le_of_ble_eq_true rfl)
  (xv_goto dX6_movesLeft_58 rfl (fun _ _ _ _ h => h))))))))))))))))))))))))))))))) l st S I h
def tr_X6_areAllPlaces_0 (d : Nat) (Rq : SmQ) (l : SmL) (st : List SmV) (S : SmS) (I : SmI) : Prop :=
  im_ic 1 l st S I fun l st S I =>
  im_istore 1 l st S I fun l st S I =>
  im_ic 0 l st S I fun l st S I =>
  im_istore 2 l st S I fun l st S I =>
  SW mi_X6_areAllPlaces 4 d Rq l st S I
theorem rv_X6_areAllPlaces_0 {d : Nat} {Rq : SmQ} {l : SmL} {st : List SmV} {S : SmS} {I : SmI} (h : tr_X6_areAllPlaces_0 d Rq l st S I) : SW mi_X6_areAllPlaces 0 d Rq l st S I :=
  (show SmW mi_X6_areAllPlaces 0 d Rq (tr_X6_areAllPlaces_0 d Rq) from
  (xv_iconst dX6_areAllPlaces_0 rfl (inRd rfl)
  (xv_istore_n dX6_areAllPlaces_1 rfl (Nat.le_of_ble_eq_true rfl)
  (xv_iconst dX6_areAllPlaces_2 rfl (inRd rfl)
  (xv_istore_n dX6_areAllPlaces_3 rfl (Nat.le_of_ble_eq_true rfl)
  (fun _ _ _ _ h => h)))))) l st S I h
def tr_X6_areAllPlaces_4 (d : Nat) (Rq : SmQ) (l : SmL) (st : List SmV) (S : SmS) (I : SmI) : Prop :=
  im_iload 2 l st S I fun l st S I =>
  im_aload 0 l st S I fun l st S I =>
  im_getR 11 0 l st S I fun l st S I =>
  im_ic 1 l st S I fun l st S I =>
  im_ald 100 l st S I fun l st S I =>
  im_cge l st S I (fun l st S I =>
  im_iload 1 l st S I fun l st S I =>
  im_zreturn Rq l st S I) (fun l st S I =>
  im_iload 1 l st S I fun l st S I =>
  im_zeq l st S I (fun l st S I =>
  im_ic 0 l st S I fun l st S I =>
  im_istore 1 l st S I fun l st S I =>
  im_iinc 2 1 l st S I fun l st S I =>
  SW mi_X6_areAllPlaces 4 d Rq l st S I) (fun l st S I =>
  im_aload 0 l st S I fun l st S I =>
  im_iload 2 l st S I fun l st S I =>
  im_ic 0 l st S I fun l st S I =>
  im_p_X6_ofTrain d l st S I fun l st S I =>
  im_aload 0 l st S I fun l st S I =>
  im_getR 11 0 l st S I fun l st S I =>
  im_ic 0 l st S I fun l st S I =>
  im_ald 100 l st S I fun l st S I =>
  im_cge l st S I (fun l st S I =>
  im_ic 0 l st S I fun l st S I =>
  im_istore 1 l st S I fun l st S I =>
  im_iinc 2 1 l st S I fun l st S I =>
  SW mi_X6_areAllPlaces 4 d Rq l st S I) (fun l st S I =>
  im_aload 0 l st S I fun l st S I =>
  im_iload 2 l st S I fun l st S I =>
  im_ic 1 l st S I fun l st S I =>
  im_p_X6_ofTrain d l st S I fun l st S I =>
  im_aload 0 l st S I fun l st S I =>
  im_getR 11 0 l st S I fun l st S I =>
  im_ic 0 l st S I fun l st S I =>
  im_ald 100 l st S I fun l st S I =>
  im_cge l st S I (fun l st S I =>
  im_ic 0 l st S I fun l st S I =>
  im_istore 1 l st S I fun l st S I =>
  im_iinc 2 1 l st S I fun l st S I =>
  SW mi_X6_areAllPlaces 4 d Rq l st S I) (fun l st S I =>
  im_ic 1 l st S I fun l st S I =>
  im_istore 1 l st S I fun l st S I =>
  im_iinc 2 1 l st S I fun l st S I =>
  SW mi_X6_areAllPlaces 4 d Rq l st S I))))
theorem rv_X6_areAllPlaces_4 {d : Nat} {Rq : SmQ} {l : SmL} {st : List SmV} {S : SmS} {I : SmI} (h : tr_X6_areAllPlaces_4 d Rq l st S I) : SW mi_X6_areAllPlaces 4 d Rq l st S I :=
  (show SmW mi_X6_areAllPlaces 4 d Rq (tr_X6_areAllPlaces_4 d Rq) from
  (xv_iload_n dX6_areAllPlaces_4 rfl
  (xv_aload_n dX6_areAllPlaces_5 rfl
  (xv_getR (k := 0) dX6_areAllPlaces_6 cl_11 tg_11 in_X6 (Nat.le_of_ble_eq_true rfl) rfl q1862
  (xv_iconst dX6_areAllPlaces_9 rfl (inRd rfl)
  (xv_iald dX6_areAllPlaces_10
  (xv_cge dX6_areAllPlaces_11 rfl
  (xv_iload_n dX6_areAllPlaces_60 rfl
  (xv_zreturn dX6_areAllPlaces_61 rfl))
  (xv_iload_n dX6_areAllPlaces_14 rfl
  (xv_zeq dX6_areAllPlaces_15 rfl
  (xv_iconst dX6_areAllPlaces_52 rfl (inRd rfl)
  (xv_istore_n dX6_areAllPlaces_53 rfl (Nat.le_of_ble_eq_true rfl)
  (xv_iinc dX6_areAllPlaces_54 (Nat.le_of_ble_eq_true rfl)
  (xv_goto dX6_areAllPlaces_57 rfl (fun _ _ _ _ h => h)))))
  (xv_aload_n dX6_areAllPlaces_18 rfl
  (xv_iload_n dX6_areAllPlaces_19 rfl
  (xv_iconst dX6_areAllPlaces_20 rfl (inRd rfl)
  (xv_p_X6_ofTrain dX6_areAllPlaces_21 (lw_V q2003 q2005 qs59 q117 q2006)
  (xv_aload_n dX6_areAllPlaces_24 rfl
  (xv_getR (k := 0) dX6_areAllPlaces_25 cl_11 tg_11 in_X6 (Nat.le_of_ble_eq_true rfl) rfl q1862
  (xv_iconst dX6_areAllPlaces_28 rfl (inRd rfl)
  (xv_iald dX6_areAllPlaces_29
  (xv_cge dX6_areAllPlaces_30 rfl
  (xv_iconst dX6_areAllPlaces_52 rfl (inRd rfl)
  (xv_istore_n dX6_areAllPlaces_53 rfl (Nat.le_of_ble_eq_true rfl)
  (xv_iinc dX6_areAllPlaces_54 (Nat.le_of_ble_eq_true rfl)
  (xv_goto dX6_areAllPlaces_57 rfl (fun _ _ _ _ h => h)))))
  (xv_aload_n dX6_areAllPlaces_33 rfl
  (xv_iload_n dX6_areAllPlaces_34 rfl
  (xv_iconst dX6_areAllPlaces_35 rfl (inRd rfl)
  (xv_p_X6_ofTrain dX6_areAllPlaces_36 (lw_V q2003 q2005 qs59 q117 q2006)
  (xv_aload_n dX6_areAllPlaces_39 rfl
  (xv_getR (k := 0) dX6_areAllPlaces_40 cl_11 tg_11 in_X6 (Nat.le_of_ble_eq_true rfl) rfl q1862
  (xv_iconst dX6_areAllPlaces_43 rfl (inRd rfl)
  (xv_iald dX6_areAllPlaces_44
  (xv_cge dX6_areAllPlaces_45 rfl
  (xv_iconst dX6_areAllPlaces_52 rfl (inRd rfl)
  (xv_istore_n dX6_areAllPlaces_53 rfl (Nat.le_of_ble_eq_true rfl)
  (xv_iinc dX6_areAllPlaces_54 (Nat.le_of_ble_eq_true rfl)
  (xv_goto dX6_areAllPlaces_57 rfl (fun _ _ _ _ h => h)))))
  (xv_iconst dX6_areAllPlaces_48 rfl (inRd rfl)
  (xv_goto dX6_areAllPlaces_49 rfl (xv_istore_n dX6_areAllPlaces_53 rfl (Nat.le_of_ble_eq_true rfl)
  (xv_iinc dX6_areAllPlaces_54 (Nat.le_of_ble_eq_true rfl)
  (xv_goto dX6_areAllPlaces_57 rfl (fun _ _ _ _ h => h))))))))))))))))))))))))))))))))) l st S I h
def tr_X6_summed_0 (d : Nat) (Rq : SmQ) (l : SmL) (st : List SmV) (S : SmS) (I : SmI) : Prop :=
  im_ic 0 l st S I fun l st S I =>
  im_istore 4 l st S I fun l st S I =>
  im_ic 0 l st S I fun l st S I =>
  im_istore 5 l st S I fun l st S I =>
  SW mi_X6_summed 6 d Rq l st S I
theorem rv_X6_summed_0 {d : Nat} {Rq : SmQ} {l : SmL} {st : List SmV} {S : SmS} {I : SmI} (h : tr_X6_summed_0 d Rq l st S I) : SW mi_X6_summed 0 d Rq l st S I :=
  (show SmW mi_X6_summed 0 d Rq (tr_X6_summed_0 d Rq) from
  (xv_iconst dX6_summed_0 rfl (inRd rfl)
  (xv_istore dX6_summed_1 (Nat.le_of_ble_eq_true rfl)
  (xv_iconst dX6_summed_3 rfl (inRd rfl)
  (xv_istore dX6_summed_4 (Nat.le_of_ble_eq_true rfl)
  (fun _ _ _ _ h => h)))))) l st S I h
def tr_X6_summed_6 (d : Nat) (Rq : SmQ) (l : SmL) (st : List SmV) (S : SmS) (I : SmI) : Prop :=
  im_iload 5 l st S I fun l st S I =>
  im_iload 3 l st S I fun l st S I =>
  im_cge l st S I (fun l st S I =>
  im_iload 4 l st S I fun l st S I =>
  im_ireturn Rq l st S I) (fun l st S I =>
  im_iload 4 l st S I fun l st S I =>
  im_aload 0 l st S I fun l st S I =>
  im_getR 11 0 l st S I fun l st S I =>
  im_iload 1 l st S I fun l st S I =>
  im_iload 2 l st S I fun l st S I =>
  im_iload 5 l st S I fun l st S I =>
  im_imul l st S I fun l st S I =>
  im_iadd l st S I fun l st S I =>
  im_ald 100 l st S I fun l st S I =>
  im_iadd l st S I fun l st S I =>
  im_istore 4 l st S I fun l st S I =>
  im_iinc 5 1 l st S I fun l st S I =>
  SW mi_X6_summed 6 d Rq l st S I)
theorem rv_X6_summed_6 {d : Nat} {Rq : SmQ} {l : SmL} {st : List SmV} {S : SmS} {I : SmI} (h : tr_X6_summed_6 d Rq l st S I) : SW mi_X6_summed 6 d Rq l st S I :=
  (show SmW mi_X6_summed 6 d Rq (tr_X6_summed_6 d Rq) from
  (xv_iload dX6_summed_6
  (xv_iload_n dX6_summed_8 rfl
  (xv_cge dX6_summed_9 rfl
  (xv_iload dX6_summed_34
  (xv_ireturn dX6_summed_36 rfl))
  (xv_iload dX6_summed_12
  (xv_aload_n dX6_summed_14 rfl
  (xv_getR (k := 0) dX6_summed_15 cl_11 tg_11 in_X6 (Nat.le_of_ble_eq_true rfl) rfl q1862
  (xv_iload_n dX6_summed_18 rfl
  (xv_iload_n dX6_summed_19 rfl
  (xv_iload dX6_summed_20
  (xv_imul dX6_summed_22
  (xv_iadd dX6_summed_23
  (xv_iald dX6_summed_24
  (xv_iadd dX6_summed_25
  (xv_istore dX6_summed_26 (Nat.le_of_ble_eq_true rfl)
  (xv_iinc dX6_summed_28 (Nat.le_of_ble_eq_true rfl)
  (xv_goto dX6_summed_31 rfl (fun _ _ _ _ h => h)))))))))))))))))) l st S I h
def tr_X6_tracksFor_0 (d : Nat) (Rq : SmQ) (l : SmL) (st : List SmV) (S : SmS) (I : SmI) : Prop :=
  im_ic 0 l st S I fun l st S I =>
  im_istore 3 l st S I fun l st S I =>
  im_ic 0 l st S I fun l st S I =>
  im_istore 4 l st S I fun l st S I =>
  SW mi_X6_tracksFor 5 d Rq l st S I
theorem rv_X6_tracksFor_0 {d : Nat} {Rq : SmQ} {l : SmL} {st : List SmV} {S : SmS} {I : SmI} (h : tr_X6_tracksFor_0 d Rq l st S I) : SW mi_X6_tracksFor 0 d Rq l st S I :=
  (show SmW mi_X6_tracksFor 0 d Rq (tr_X6_tracksFor_0 d Rq) from
  (xv_iconst dX6_tracksFor_0 rfl (inRd rfl)
  (xv_istore_n dX6_tracksFor_1 rfl (Nat.le_of_ble_eq_true rfl)
  (xv_iconst dX6_tracksFor_2 rfl (inRd rfl)
  (xv_istore dX6_tracksFor_3 (Nat.le_of_ble_eq_true rfl)
  (fun _ _ _ _ h => h)))))) l st S I h
def tr_X6_tracksFor_5 (d : Nat) (Rq : SmQ) (l : SmL) (st : List SmV) (S : SmS) (I : SmI) : Prop :=
  im_iload 4 l st S I fun l st S I =>
  im_aload 0 l st S I fun l st S I =>
  im_iload 1 l st S I fun l st S I =>
  im_ic 0 l st S I fun l st S I =>
  im_p_X6_ofPlace d l st S I fun l st S I =>
  im_cge l st S I (fun l st S I =>
  im_iload 3 l st S I fun l st S I =>
  im_ireturn Rq l st S I) (fun l st S I =>
  im_iload 3 l st S I fun l st S I =>
  im_aload 0 l st S I fun l st S I =>
  im_iload 1 l st S I fun l st S I =>
  im_ic 1 l st S I fun l st S I =>
  im_iload 4 l st S I fun l st S I =>
  im_iadd l st S I fun l st S I =>
  im_p_X6_ofPlace d l st S I fun l st S I =>
  im_iload 2 l st S I fun l st S I =>
  im_clt l st S I (fun l st S I =>
  im_ic 0 l st S I fun l st S I =>
  im_p_X6_flag d l st S I fun l st S I =>
  im_iadd l st S I fun l st S I =>
  im_istore 3 l st S I fun l st S I =>
  im_iinc 4 1 l st S I fun l st S I =>
  SW mi_X6_tracksFor 5 d Rq l st S I) (fun l st S I =>
  im_ic 1 l st S I fun l st S I =>
  im_p_X6_flag d l st S I fun l st S I =>
  im_iadd l st S I fun l st S I =>
  im_istore 3 l st S I fun l st S I =>
  im_iinc 4 1 l st S I fun l st S I =>
  SW mi_X6_tracksFor 5 d Rq l st S I))
theorem rv_X6_tracksFor_5 {d : Nat} {Rq : SmQ} {l : SmL} {st : List SmV} {S : SmS} {I : SmI} (h : tr_X6_tracksFor_5 d Rq l st S I) : SW mi_X6_tracksFor 5 d Rq l st S I :=
  (show SmW mi_X6_tracksFor 5 d Rq (tr_X6_tracksFor_5 d Rq) from
  (xv_iload dX6_tracksFor_5
  (xv_aload_n dX6_tracksFor_7 rfl
  (xv_iload_n dX6_tracksFor_8 rfl
  (xv_iconst dX6_tracksFor_9 rfl (inRd rfl)
  (xv_p_X6_ofPlace dX6_tracksFor_10 (lw_V q2041 q2043 qs67 q117 q2044)
  (xv_cge dX6_tracksFor_13 rfl
  (xv_iload_n dX6_tracksFor_46 rfl
  (xv_ireturn dX6_tracksFor_47 rfl))
  (xv_iload_n dX6_tracksFor_16 rfl
  (xv_aload_n dX6_tracksFor_17 rfl
  (xv_iload_n dX6_tracksFor_18 rfl
  (xv_iconst dX6_tracksFor_19 rfl (inRd rfl)
  (xv_iload dX6_tracksFor_20
  (xv_iadd dX6_tracksFor_22
  (xv_p_X6_ofPlace dX6_tracksFor_23 (lw_V q2041 q2043 qs67 q117 q2044)
  (xv_iload_n dX6_tracksFor_26 rfl
  (xv_clt dX6_tracksFor_27 rfl
  (xv_iconst dX6_tracksFor_34 rfl (inRd rfl)
  (xv_p_X6_flag dX6_tracksFor_35 (lw_S q2034 q2035 q117 q2036)
  (xv_iadd dX6_tracksFor_38
  (xv_istore_n dX6_tracksFor_39 rfl (Nat.le_of_ble_eq_true rfl)
  (xv_iinc dX6_tracksFor_40 (Nat.le_of_ble_eq_true rfl)
  (xv_goto dX6_tracksFor_43 rfl (fun _ _ _ _ h => h)))))))
  (xv_iconst dX6_tracksFor_30 rfl (inRd rfl)
  (xv_goto dX6_tracksFor_31 rfl (xv_p_X6_flag dX6_tracksFor_35 (lw_S q2034 q2035 q117 q2036)
  (xv_iadd dX6_tracksFor_38
  (xv_istore_n dX6_tracksFor_39 rfl (Nat.le_of_ble_eq_true rfl)
  (xv_iinc dX6_tracksFor_40 (Nat.le_of_ble_eq_true rfl)
  (xv_goto dX6_tracksFor_43 rfl (fun _ _ _ _ h => h)))))))))))))))))))))))) l st S I h
def tr_X6_trainsFor_0 (d : Nat) (Rq : SmQ) (l : SmL) (st : List SmV) (S : SmS) (I : SmI) : Prop :=
  im_ic 0 l st S I fun l st S I =>
  im_istore 3 l st S I fun l st S I =>
  im_ic 0 l st S I fun l st S I =>
  im_istore 4 l st S I fun l st S I =>
  SW mi_X6_trainsFor 5 d Rq l st S I
theorem rv_X6_trainsFor_0 {d : Nat} {Rq : SmQ} {l : SmL} {st : List SmV} {S : SmS} {I : SmI} (h : tr_X6_trainsFor_0 d Rq l st S I) : SW mi_X6_trainsFor 0 d Rq l st S I :=
  (show SmW mi_X6_trainsFor 0 d Rq (tr_X6_trainsFor_0 d Rq) from
  (xv_iconst dX6_trainsFor_0 rfl (inRd rfl)
  (xv_istore_n dX6_trainsFor_1 rfl (Nat.le_of_ble_eq_true rfl)
  (xv_iconst dX6_trainsFor_2 rfl (inRd rfl)
  (xv_istore dX6_trainsFor_3 (Nat.le_of_ble_eq_true rfl)
  (fun _ _ _ _ h => h)))))) l st S I h
def tr_X6_trainsFor_5 (d : Nat) (Rq : SmQ) (l : SmL) (st : List SmV) (S : SmS) (I : SmI) : Prop :=
  im_iload 4 l st S I fun l st S I =>
  im_aload 0 l st S I fun l st S I =>
  im_getR 11 0 l st S I fun l st S I =>
  im_ic 1 l st S I fun l st S I =>
  im_ald 100 l st S I fun l st S I =>
  im_cge l st S I (fun l st S I =>
  im_iload 3 l st S I fun l st S I =>
  im_ireturn Rq l st S I) (fun l st S I =>
  im_iload 3 l st S I fun l st S I =>
  im_aload 0 l st S I fun l st S I =>
  im_getR 11 13 l st S I fun l st S I =>
  im_iload 4 l st S I fun l st S I =>
  im_ald 100 l st S I fun l st S I =>
  im_iload 1 l st S I fun l st S I =>
  im_ic 1 l st S I fun l st S I =>
  im_iadd l st S I fun l st S I =>
  im_cne l st S I (fun l st S I =>
  im_ic 0 l st S I fun l st S I =>
  im_p_X6_flag d l st S I fun l st S I =>
  im_iadd l st S I fun l st S I =>
  im_istore 3 l st S I fun l st S I =>
  im_iinc 4 1 l st S I fun l st S I =>
  SW mi_X6_trainsFor 5 d Rq l st S I) (fun l st S I =>
  im_aload 0 l st S I fun l st S I =>
  im_iload 4 l st S I fun l st S I =>
  im_ic 2 l st S I fun l st S I =>
  im_p_X6_ofTrain d l st S I fun l st S I =>
  im_iload 2 l st S I fun l st S I =>
  im_clt l st S I (fun l st S I =>
  im_ic 0 l st S I fun l st S I =>
  im_p_X6_flag d l st S I fun l st S I =>
  im_iadd l st S I fun l st S I =>
  im_istore 3 l st S I fun l st S I =>
  im_iinc 4 1 l st S I fun l st S I =>
  SW mi_X6_trainsFor 5 d Rq l st S I) (fun l st S I =>
  im_ic 1 l st S I fun l st S I =>
  im_p_X6_flag d l st S I fun l st S I =>
  im_iadd l st S I fun l st S I =>
  im_istore 3 l st S I fun l st S I =>
  im_iinc 4 1 l st S I fun l st S I =>
  SW mi_X6_trainsFor 5 d Rq l st S I)))
theorem rv_X6_trainsFor_5 {d : Nat} {Rq : SmQ} {l : SmL} {st : List SmV} {S : SmS} {I : SmI} (h : tr_X6_trainsFor_5 d Rq l st S I) : SW mi_X6_trainsFor 5 d Rq l st S I :=
  (show SmW mi_X6_trainsFor 5 d Rq (tr_X6_trainsFor_5 d Rq) from
  (xv_iload dX6_trainsFor_5
  (xv_aload_n dX6_trainsFor_7 rfl
  (xv_getR (k := 0) dX6_trainsFor_8 cl_11 tg_11 in_X6 (Nat.le_of_ble_eq_true rfl) rfl q1862
  (xv_iconst dX6_trainsFor_11 rfl (inRd rfl)
  (xv_iald dX6_trainsFor_12
  (xv_cge dX6_trainsFor_13 rfl
  (xv_iload_n dX6_trainsFor_57 rfl
  (xv_ireturn dX6_trainsFor_58 rfl))
  (xv_iload_n dX6_trainsFor_16 rfl
  (xv_aload_n dX6_trainsFor_17 rfl
  (xv_getR (k := 13) dX6_trainsFor_18 cl_11 tg_11 in_X6 (Nat.le_of_ble_eq_true rfl) rfl q1875
  (xv_iload dX6_trainsFor_21
  (xv_iald dX6_trainsFor_23
  (xv_iload_n dX6_trainsFor_24 rfl
  (xv_iconst dX6_trainsFor_25 rfl (inRd rfl)
  (xv_iadd dX6_trainsFor_26
  (xv_cne dX6_trainsFor_27 rfl
  (xv_iconst dX6_trainsFor_45 rfl (inRd rfl)
  (xv_p_X6_flag dX6_trainsFor_46 (lw_S q2034 q2035 q117 q2036)
  (xv_iadd dX6_trainsFor_49
  (xv_istore_n dX6_trainsFor_50 rfl (Nat.le_of_ble_eq_true rfl)
  (xv_iinc dX6_trainsFor_51 (Nat.le_of_ble_eq_true rfl)
  (xv_goto dX6_trainsFor_54 rfl (fun _ _ _ _ h => h)))))))
  (xv_aload_n dX6_trainsFor_30 rfl
  (xv_iload dX6_trainsFor_31
  (xv_iconst dX6_trainsFor_33 rfl (inRd rfl)
  (xv_p_X6_ofTrain dX6_trainsFor_34 (lw_V q2003 q2005 qs59 q117 q2006)
  (xv_iload_n dX6_trainsFor_37 rfl
  (xv_clt dX6_trainsFor_38 rfl
  (xv_iconst dX6_trainsFor_45 rfl (inRd rfl)
  (xv_p_X6_flag dX6_trainsFor_46 (lw_S q2034 q2035 q117 q2036)
  (xv_iadd dX6_trainsFor_49
  (xv_istore_n dX6_trainsFor_50 rfl (Nat.le_of_ble_eq_true rfl)
  (xv_iinc dX6_trainsFor_51 (Nat.le_of_ble_eq_true rfl)
  (xv_goto dX6_trainsFor_54 rfl (fun _ _ _ _ h => h)))))))
  (xv_iconst dX6_trainsFor_41 rfl (inRd rfl)
  (xv_goto dX6_trainsFor_42 rfl (xv_p_X6_flag dX6_trainsFor_46 (lw_S q2034 q2035 q117 q2036)
  (xv_iadd dX6_trainsFor_49
  (xv_istore_n dX6_trainsFor_50 rfl (Nat.le_of_ble_eq_true rfl)
  (xv_iinc dX6_trainsFor_51 (Nat.le_of_ble_eq_true rfl)
  (xv_goto dX6_trainsFor_54 rfl (fun _ _ _ _ h => h)))))))))))))))))))))))))))))) l st S I h
def tr_X6_isEverDone_0 (d : Nat) (Rq : SmQ) (l : SmL) (st : List SmV) (S : SmS) (I : SmI) : Prop :=
  im_ic 0 l st S I fun l st S I =>
  im_istore 2 l st S I fun l st S I =>
  im_ic 0 l st S I fun l st S I =>
  im_istore 3 l st S I fun l st S I =>
  SW mi_X6_isEverDone 4 d Rq l st S I
theorem rv_X6_isEverDone_0 {d : Nat} {Rq : SmQ} {l : SmL} {st : List SmV} {S : SmS} {I : SmI} (h : tr_X6_isEverDone_0 d Rq l st S I) : SW mi_X6_isEverDone 0 d Rq l st S I :=
  (show SmW mi_X6_isEverDone 0 d Rq (tr_X6_isEverDone_0 d Rq) from
  (xv_iconst dX6_isEverDone_0 rfl (inRd rfl)
  (xv_istore_n dX6_isEverDone_1 rfl (Nat.le_of_ble_eq_true rfl)
  (xv_iconst dX6_isEverDone_2 rfl (inRd rfl)
  (xv_istore_n dX6_isEverDone_3 rfl (Nat.le_of_ble_eq_true rfl)
  (fun _ _ _ _ h => h)))))) l st S I h
def tr_X6_isEverDone_4 (d : Nat) (Rq : SmQ) (l : SmL) (st : List SmV) (S : SmS) (I : SmI) : Prop :=
  im_iload 3 l st S I fun l st S I =>
  im_aload 0 l st S I fun l st S I =>
  im_getI 11 17 l st S I fun l st S I =>
  im_cge l st S I (fun l st S I =>
  im_iload 2 l st S I fun l st S I =>
  im_zreturn Rq l st S I) (fun l st S I =>
  im_iload 2 l st S I fun l st S I =>
  im_zne l st S I (fun l st S I =>
  im_ic 1 l st S I fun l st S I =>
  im_istore 2 l st S I fun l st S I =>
  im_iinc 3 1 l st S I fun l st S I =>
  SW mi_X6_isEverDone 4 d Rq l st S I) (fun l st S I =>
  im_aload 0 l st S I fun l st S I =>
  im_getR 11 14 l st S I fun l st S I =>
  im_iload 3 l st S I fun l st S I =>
  im_ald 100 l st S I fun l st S I =>
  im_iload 1 l st S I fun l st S I =>
  im_p_X6_weightOf d l st S I fun l st S I =>
  im_idiv l st S I fun l st S I =>
  im_ic 7 l st S I fun l st S I =>
  im_irem l st S I fun l st S I =>
  im_zne l st S I (fun l st S I =>
  im_ic 0 l st S I fun l st S I =>
  im_istore 2 l st S I fun l st S I =>
  im_iinc 3 1 l st S I fun l st S I =>
  SW mi_X6_isEverDone 4 d Rq l st S I) (fun l st S I =>
  im_ic 1 l st S I fun l st S I =>
  im_istore 2 l st S I fun l st S I =>
  im_iinc 3 1 l st S I fun l st S I =>
  SW mi_X6_isEverDone 4 d Rq l st S I)))
theorem rv_X6_isEverDone_4 {d : Nat} {Rq : SmQ} {l : SmL} {st : List SmV} {S : SmS} {I : SmI} (h : tr_X6_isEverDone_4 d Rq l st S I) : SW mi_X6_isEverDone 4 d Rq l st S I :=
  (show SmW mi_X6_isEverDone 4 d Rq (tr_X6_isEverDone_4 d Rq) from
  (xv_iload_n dX6_isEverDone_4 rfl
  (xv_aload_n dX6_isEverDone_5 rfl
  (xv_getI (k := 17) dX6_isEverDone_6 cl_11 tg_11 in_X6 (Nat.le_of_ble_eq_true rfl) rfl q1879
  (xv_cge dX6_isEverDone_9 rfl
  (xv_iload_n dX6_isEverDone_45 rfl
  (xv_zreturn dX6_isEverDone_46 rfl))
  (xv_iload_n dX6_isEverDone_12 rfl
  (xv_zne dX6_isEverDone_13 rfl
  (xv_iconst dX6_isEverDone_33 rfl (inRd rfl)
  (xv_goto dX6_isEverDone_34 rfl (xv_istore_n dX6_isEverDone_38 rfl (Nat.le_of_ble_eq_true rfl)
  (xv_iinc dX6_isEverDone_39 (Nat.le_of_ble_eq_true rfl)
  (xv_goto dX6_isEverDone_42 rfl (fun _ _ _ _ h => h))))))
  (xv_aload_n dX6_isEverDone_16 rfl
  (xv_getR (k := 14) dX6_isEverDone_17 cl_11 tg_11 in_X6 (Nat.le_of_ble_eq_true rfl) rfl q1876
  (xv_iload_n dX6_isEverDone_20 rfl
  (xv_iald dX6_isEverDone_21
  (xv_iload_n dX6_isEverDone_22 rfl
  (xv_p_X6_weightOf dX6_isEverDone_23 (lw_S q2019 q2020 q117 q2021)
  (xv_idiv dX6_isEverDone_26
  (xv_bipush dX6_isEverDone_27 rfl (inRd rfl)
  (xv_irem dX6_isEverDone_29
  (xv_zne dX6_isEverDone_30 rfl
  (xv_iconst dX6_isEverDone_37 rfl (inRd rfl)
  (xv_istore_n dX6_isEverDone_38 rfl (Nat.le_of_ble_eq_true rfl)
  (xv_iinc dX6_isEverDone_39 (Nat.le_of_ble_eq_true rfl)
  (xv_goto dX6_isEverDone_42 rfl (fun _ _ _ _ h => h)))))
  (xv_iconst dX6_isEverDone_33 rfl (inRd rfl)
  (xv_goto dX6_isEverDone_34 rfl (xv_istore_n dX6_isEverDone_38 rfl (Nat.le_of_ble_eq_true rfl)
  (xv_iinc dX6_isEverDone_39 (Nat.le_of_ble_eq_true rfl)
  (xv_goto dX6_isEverDone_42 rfl (fun _ _ _ _ h => h))))))))))))))))))))))) l st S I h
