/-! regions of methods, printed by gen/regions.py -/
set_option maxRecDepth 100000
/- X1_way: cut at [0] -/
abbrev mi_X1_way : SmM := (yX1_way, cX1_way, 2, (some FieldType.int : Option FieldType), [])
theorem ok_X1_way : callOk mi_X1_way 1 := ⟨rfl, rfl, Nat.le_of_ble_eq_true rfl, by decide, by decide, by decide +kernel⟩
theorem ent_X1_way (x : Option Nat) (x0 : Int) : entL (mL mi_X1_way) [vR x, vI x0] = [some (vR x), some (vI x0)] := rfl
/- X1_isDone: cut at [0] -/
abbrev mi_X1_isDone : SmM := (yX1_isDone, cX1_isDone, 2, (some FieldType.boolean : Option FieldType), [])
theorem ok_X1_isDone : callOk mi_X1_isDone 1 := ⟨rfl, rfl, Nat.le_of_ble_eq_true rfl, by decide, by decide, by decide +kernel⟩
theorem ent_X1_isDone (x : Option Nat) (x0 : Int) : entL (mL mi_X1_isDone) [vR x, vI x0] = [some (vR x), some (vI x0)] := rfl
/- X1_posture: cut at [0, 9] -/
abbrev mi_X1_posture : SmM := (yX1_posture, cX1_posture, 3, (some FieldType.int : Option FieldType), [])
theorem ok_X1_posture : callOk mi_X1_posture 0 := ⟨rfl, rfl, Nat.le_of_ble_eq_true rfl, by decide, by decide, by decide +kernel⟩
theorem ent_X1_posture (x : Option Nat) : entL (mL mi_X1_posture) [vR x] = [some (vR x), none, none] := rfl
/- X1_all: cut at [0, 4] -/
abbrev mi_X1_all : SmM := (yX1_all, cX1_all, 3, (some FieldType.int : Option FieldType), [])
theorem ok_X1_all : callOk mi_X1_all 0 := ⟨rfl, rfl, Nat.le_of_ble_eq_true rfl, by decide, by decide, by decide +kernel⟩
theorem ent_X1_all (x : Option Nat) : entL (mL mi_X1_all) [vR x] = [some (vR x), none, none] := rfl
/- X1_still: cut at [0, 18] -/
abbrev mi_X1_still : SmM := (yX1_still, cX1_still, 4, (some FieldType.int : Option FieldType), [])
theorem ok_X1_still : callOk mi_X1_still 1 := ⟨rfl, rfl, Nat.le_of_ble_eq_true rfl, by decide, by decide, by decide +kernel⟩
theorem ent_X1_still (x : Option Nat) (x0 : Int) : entL (mL mi_X1_still) [vR x, vI x0] = [some (vR x), some (vI x0), none, none] := rfl
/- X1_comes: cut at [0] -/
abbrev mi_X1_comes : SmM := (yX1_comes, cX1_comes, 4, (none : Option FieldType), [])
theorem ok_X1_comes : callOk mi_X1_comes 3 := ⟨rfl, rfl, Nat.le_of_ble_eq_true rfl, by decide, by decide, by decide +kernel⟩
theorem ent_X1_comes (x : Option Nat) (x0 : Int) (x1 : Int) (x2 : Int) : entL (mL mi_X1_comes) [vR x, vI x0, vI x1, vI x2] = [some (vR x), some (vI x0), some (vI x1), some (vI x2)] := rfl
/- X1_moves: cut at [0] -/
abbrev mi_X1_moves : SmM := (yX1_moves, cX1_moves, 4, (none : Option FieldType), [])
theorem ok_X1_moves : callOk mi_X1_moves 3 := ⟨rfl, rfl, Nat.le_of_ble_eq_true rfl, by decide, by decide, by decide +kernel⟩
theorem ent_X1_moves (x : Option Nat) (x0 : Option Nat) (x1 : Int) (x2 : Int) : entL (mL mi_X1_moves) [vR x, vR x0, vI x1, vI x2] = [some (vR x), some (vR x0), some (vI x1), some (vI x2)] := rfl
/- X1_takes: cut at [0, 2, 66, 78] -/
abbrev mi_X1_takes : SmM := (yX1_takes, cX1_takes, 3, (none : Option FieldType), [])
theorem ok_X1_takes : callOk mi_X1_takes 1 := ⟨rfl, rfl, Nat.le_of_ble_eq_true rfl, by decide, by decide, by decide +kernel⟩
theorem ent_X1_takes (x : Option Nat) (x0 : Option Nat) : entL (mL mi_X1_takes) [vR x, vR x0] = [some (vR x), some (vR x0), none] := rfl
/- X0_isIn: cut at [0] -/
abbrev mi_X0_isIn : SmM := (yX0_isIn, cX0_isIn, 6, (some FieldType.boolean : Option FieldType), [])
theorem ok_X0_isIn : callOk mi_X0_isIn 3 := ⟨rfl, rfl, Nat.le_of_ble_eq_true rfl, by decide, by decide, by decide +kernel⟩
theorem ent_X0_isIn (x0 : Int) (x1 : Int) (x2 : Int) : entL (mL mi_X0_isIn) [vJ x0, vJ x1, vJ x2] = [some (vJ x0), none, some (vJ x1), none, some (vJ x2), none] := rfl
/- X0_has: cut at [0] -/
abbrev mi_X0_has : SmM := (yX0_has, cX0_has, 2, (some FieldType.boolean : Option FieldType), [])
theorem ok_X0_has : callOk mi_X0_has 2 := ⟨rfl, rfl, Nat.le_of_ble_eq_true rfl, by decide, by decide, by decide +kernel⟩
theorem ent_X0_has (x0 : Int) (x1 : Int) : entL (mL mi_X0_has) [vI x0, vI x1] = [some (vI x0), some (vI x1)] := rfl
/- X0_placeIn: cut at [0, 4] -/
abbrev mi_X0_placeIn : SmM := (yX0_placeIn, cX0_placeIn, 4, (some FieldType.int : Option FieldType), [])
theorem ok_X0_placeIn : callOk mi_X0_placeIn 2 := ⟨rfl, rfl, Nat.le_of_ble_eq_true rfl, by decide, by decide, by decide +kernel⟩
theorem ent_X0_placeIn (x0 : Int) (x1 : Int) : entL (mL mi_X0_placeIn) [vI x0, vI x1] = [some (vI x0), some (vI x1), none, none] := rfl
/- X0_powerOf: cut at [0, 4] -/
abbrev mi_X0_powerOf : SmM := (yX0_powerOf, cX0_powerOf, 3, (some FieldType.int : Option FieldType), [])
theorem ok_X0_powerOf : callOk mi_X0_powerOf 1 := ⟨rfl, rfl, Nat.le_of_ble_eq_true rfl, by decide, by decide, by decide +kernel⟩
theorem ent_X0_powerOf (x0 : Int) : entL (mL mi_X0_powerOf) [vI x0] = [some (vI x0), none, none] := rfl
def tr_X1_way_0 (d : Nat) (Rq : SmQ) (l : SmL) (st : List SmV) (S : SmS) (I : SmI) : Prop :=
  im_aload 0 l st S I fun l st S I =>
  im_getR 2 5 l st S I fun l st S I =>
  im_iload 1 l st S I fun l st S I =>
  im_ald 100 l st S I fun l st S I =>
  im_aload 0 l st S I fun l st S I =>
  im_getR 2 4 l st S I fun l st S I =>
  im_iload 1 l st S I fun l st S I =>
  im_ald 100 l st S I fun l st S I =>
  im_cle l st S I (fun l st S I =>
  im_ic (-1) l st S I fun l st S I =>
  im_ireturn Rq l st S I) (fun l st S I =>
  im_ic 1 l st S I fun l st S I =>
  im_ireturn Rq l st S I)
theorem rv_X1_way_0 {d : Nat} {Rq : SmQ} {l : SmL} {st : List SmV} {S : SmS} {I : SmI} (h : tr_X1_way_0 d Rq l st S I) : SW mi_X1_way 0 d Rq l st S I :=
  (show SmW mi_X1_way 0 d Rq (tr_X1_way_0 d Rq) from
  (xv_aload_n dX1_way_0 rfl
  (xv_getR (k := 5) dX1_way_1 cl_2 tg_2 in_X1 (Nat.le_of_ble_eq_true rfl) rfl q204
  (xv_iload_n dX1_way_4 rfl
  (xv_iald dX1_way_5
  (xv_aload_n dX1_way_6 rfl
  (xv_getR (k := 4) dX1_way_7 cl_2 tg_2 in_X1 (Nat.le_of_ble_eq_true rfl) rfl q202
  (xv_iload_n dX1_way_10 rfl
  (xv_iald dX1_way_11
  (xv_cle dX1_way_12 rfl
  (xv_iconst dX1_way_19 rfl (inRd rfl)
  (xv_ireturn dX1_way_20 rfl))
  (xv_iconst dX1_way_15 rfl (inRd rfl)
  (xv_goto dX1_way_16 rfl (xv_ireturn dX1_way_20 rfl))))))))))))) l st S I h
def tr_X1_isDone_0 (d : Nat) (Rq : SmQ) (l : SmL) (st : List SmV) (S : SmS) (I : SmI) : Prop :=
  im_aload 0 l st S I fun l st S I =>
  im_getR 2 7 l st S I fun l st S I =>
  im_iload 1 l st S I fun l st S I =>
  im_ald 100 l st S I fun l st S I =>
  im_aload 0 l st S I fun l st S I =>
  im_getR 2 5 l st S I fun l st S I =>
  im_iload 1 l st S I fun l st S I =>
  im_ald 100 l st S I fun l st S I =>
  im_cne l st S I (fun l st S I =>
  im_ic 0 l st S I fun l st S I =>
  im_zreturn Rq l st S I) (fun l st S I =>
  im_aload 0 l st S I fun l st S I =>
  im_getR 2 8 l st S I fun l st S I =>
  im_iload 1 l st S I fun l st S I =>
  im_ald 102 l st S I fun l st S I =>
  im_zne l st S I (fun l st S I =>
  im_ic 0 l st S I fun l st S I =>
  im_zreturn Rq l st S I) (fun l st S I =>
  im_ic 1 l st S I fun l st S I =>
  im_zreturn Rq l st S I))
theorem rv_X1_isDone_0 {d : Nat} {Rq : SmQ} {l : SmL} {st : List SmV} {S : SmS} {I : SmI} (h : tr_X1_isDone_0 d Rq l st S I) : SW mi_X1_isDone 0 d Rq l st S I :=
  (show SmW mi_X1_isDone 0 d Rq (tr_X1_isDone_0 d Rq) from
  (xv_aload_n dX1_isDone_0 rfl
  (xv_getR (k := 7) dX1_isDone_1 cl_2 tg_2 in_X1 (Nat.le_of_ble_eq_true rfl) rfl q210
  (xv_iload_n dX1_isDone_4 rfl
  (xv_iald dX1_isDone_5
  (xv_aload_n dX1_isDone_6 rfl
  (xv_getR (k := 5) dX1_isDone_7 cl_2 tg_2 in_X1 (Nat.le_of_ble_eq_true rfl) rfl q204
  (xv_iload_n dX1_isDone_10 rfl
  (xv_iald dX1_isDone_11
  (xv_cne dX1_isDone_12 rfl
  (xv_iconst dX1_isDone_28 rfl (inRd rfl)
  (xv_zreturn dX1_isDone_29 rfl))
  (xv_aload_n dX1_isDone_15 rfl
  (xv_getR (k := 8) dX1_isDone_16 cl_2 tg_2 in_X1 (Nat.le_of_ble_eq_true rfl) rfl q212
  (xv_iload_n dX1_isDone_19 rfl
  (xv_zald dX1_isDone_20
  (xv_zne dX1_isDone_21 rfl
  (xv_iconst dX1_isDone_28 rfl (inRd rfl)
  (xv_zreturn dX1_isDone_29 rfl))
  (xv_iconst dX1_isDone_24 rfl (inRd rfl)
  (xv_goto dX1_isDone_25 rfl (xv_zreturn dX1_isDone_29 rfl)))))))))))))))))) l st S I h
def tr_X1_posture_0 (d : Nat) (Rq : SmQ) (l : SmL) (st : List SmV) (S : SmS) (I : SmI) : Prop :=
  im_ic 0 l st S I fun l st S I =>
  im_istore 1 l st S I fun l st S I =>
  im_aload 0 l st S I fun l st S I =>
  im_getI 2 10 l st S I fun l st S I =>
  im_ic 1 l st S I fun l st S I =>
  im_isub l st S I fun l st S I =>
  im_istore 2 l st S I fun l st S I =>
  SW mi_X1_posture 9 d Rq l st S I
theorem rv_X1_posture_0 {d : Nat} {Rq : SmQ} {l : SmL} {st : List SmV} {S : SmS} {I : SmI} (h : tr_X1_posture_0 d Rq l st S I) : SW mi_X1_posture 0 d Rq l st S I :=
  (show SmW mi_X1_posture 0 d Rq (tr_X1_posture_0 d Rq) from
  (xv_iconst dX1_posture_0 rfl (inRd rfl)
  (xv_istore_n dX1_posture_1 rfl (Nat.le_of_ble_eq_true rfl)
  (xv_aload_n dX1_posture_2 rfl
  (xv_getI (k := 10) dX1_posture_3 cl_2 tg_2 in_X1 (Nat.le_of_ble_eq_true rfl) rfl q216
  (xv_iconst dX1_posture_6 rfl (inRd rfl)
  (xv_isub dX1_posture_7
  (xv_istore_n dX1_posture_8 rfl (Nat.le_of_ble_eq_true rfl)
  (fun _ _ _ _ h => h))))))))) l st S I h
def tr_X1_posture_9 (d : Nat) (Rq : SmQ) (l : SmL) (st : List SmV) (S : SmS) (I : SmI) : Prop :=
  im_iload 2 l st S I fun l st S I =>
  im_zlt l st S I (fun l st S I =>
  im_iload 1 l st S I fun l st S I =>
  im_ireturn Rq l st S I) (fun l st S I =>
  im_ic 7 l st S I fun l st S I =>
  im_iload 1 l st S I fun l st S I =>
  im_imul l st S I fun l st S I =>
  im_aload 0 l st S I fun l st S I =>
  im_getR 2 7 l st S I fun l st S I =>
  im_iload 2 l st S I fun l st S I =>
  im_ald 100 l st S I fun l st S I =>
  im_aload 0 l st S I fun l st S I =>
  im_getR 2 5 l st S I fun l st S I =>
  im_iload 2 l st S I fun l st S I =>
  im_ald 100 l st S I fun l st S I =>
  im_cne l st S I (fun l st S I =>
  im_aload 0 l st S I fun l st S I =>
  im_getR 2 7 l st S I fun l st S I =>
  im_iload 2 l st S I fun l st S I =>
  im_ald 100 l st S I fun l st S I =>
  im_iadd l st S I fun l st S I =>
  im_istore 1 l st S I fun l st S I =>
  im_iinc 2 (-1) l st S I fun l st S I =>
  SW mi_X1_posture 9 d Rq l st S I) (fun l st S I =>
  im_ic 6 l st S I fun l st S I =>
  im_iadd l st S I fun l st S I =>
  im_istore 1 l st S I fun l st S I =>
  im_iinc 2 (-1) l st S I fun l st S I =>
  SW mi_X1_posture 9 d Rq l st S I))
theorem rv_X1_posture_9 {d : Nat} {Rq : SmQ} {l : SmL} {st : List SmV} {S : SmS} {I : SmI} (h : tr_X1_posture_9 d Rq l st S I) : SW mi_X1_posture 9 d Rq l st S I :=
  (show SmW mi_X1_posture 9 d Rq (tr_X1_posture_9 d Rq) from
  (xv_iload_n dX1_posture_9 rfl
  (xv_zlt dX1_posture_10 rfl
  (xv_iload_n dX1_posture_51 rfl
  (xv_ireturn dX1_posture_52 rfl))
  (xv_bipush dX1_posture_13 rfl (inRd rfl)
  (xv_iload_n dX1_posture_15 rfl
  (xv_imul dX1_posture_16
  (xv_aload_n dX1_posture_17 rfl
  (xv_getR (k := 7) dX1_posture_18 cl_2 tg_2 in_X1 (Nat.le_of_ble_eq_true rfl) rfl q210
  (xv_iload_n dX1_posture_21 rfl
  (xv_iald dX1_posture_22
  (xv_aload_n dX1_posture_23 rfl
  (xv_getR (k := 5) dX1_posture_24 cl_2 tg_2 in_X1 (Nat.le_of_ble_eq_true rfl) rfl q204
  (xv_iload_n dX1_posture_27 rfl
  (xv_iald dX1_posture_28
  (xv_cne dX1_posture_29 rfl
  (xv_aload_n dX1_posture_37 rfl
  (xv_getR (k := 7) dX1_posture_38 cl_2 tg_2 in_X1 (Nat.le_of_ble_eq_true rfl) rfl q210
  (xv_iload_n dX1_posture_41 rfl
  (xv_iald dX1_posture_42
  (xv_iadd dX1_posture_43
  (xv_istore_n dX1_posture_44 rfl (Nat.le_of_ble_eq_true rfl)
  (xv_iinc dX1_posture_45 (Nat.le_of_ble_eq_true rfl)
  (xv_goto dX1_posture_48 rfl (fun _ _ _ _ h => h)))))))))
  (xv_bipush dX1_posture_32 rfl (inRd rfl)
  (xv_goto dX1_posture_34 rfl (xv_iadd dX1_posture_43
  (xv_istore_n dX1_posture_44 rfl (Nat.le_of_ble_eq_true rfl)
  (xv_iinc dX1_posture_45 (Nat.le_of_ble_eq_true rfl)
  (xv_goto dX1_posture_48 rfl (fun _ _ _ _ h => h)))))))))))))))))))))) l st S I h
def tr_X1_all_0 (d : Nat) (Rq : SmQ) (l : SmL) (st : List SmV) (S : SmS) (I : SmI) : Prop :=
  im_ic 0 l st S I fun l st S I =>
  im_istore 1 l st S I fun l st S I =>
  im_ic 0 l st S I fun l st S I =>
  im_istore 2 l st S I fun l st S I =>
  SW mi_X1_all 4 d Rq l st S I
theorem rv_X1_all_0 {d : Nat} {Rq : SmQ} {l : SmL} {st : List SmV} {S : SmS} {I : SmI} (h : tr_X1_all_0 d Rq l st S I) : SW mi_X1_all 0 d Rq l st S I :=
  (show SmW mi_X1_all 0 d Rq (tr_X1_all_0 d Rq) from
  (xv_iconst dX1_all_0 rfl (inRd rfl)
  (xv_istore_n dX1_all_1 rfl (Nat.le_of_ble_eq_true rfl)
  (xv_iconst dX1_all_2 rfl (inRd rfl)
  (xv_istore_n dX1_all_3 rfl (Nat.le_of_ble_eq_true rfl)
  (fun _ _ _ _ h => h)))))) l st S I h
def tr_X1_all_4 (d : Nat) (Rq : SmQ) (l : SmL) (st : List SmV) (S : SmS) (I : SmI) : Prop :=
  im_iload 2 l st S I fun l st S I =>
  im_aload 0 l st S I fun l st S I =>
  im_getI 2 10 l st S I fun l st S I =>
  im_cge l st S I (fun l st S I =>
  im_iload 1 l st S I fun l st S I =>
  im_ireturn Rq l st S I) (fun l st S I =>
  im_ic 7 l st S I fun l st S I =>
  im_iload 1 l st S I fun l st S I =>
  im_imul l st S I fun l st S I =>
  im_ic 6 l st S I fun l st S I =>
  im_iadd l st S I fun l st S I =>
  im_istore 1 l st S I fun l st S I =>
  im_iinc 2 1 l st S I fun l st S I =>
  SW mi_X1_all 4 d Rq l st S I)
theorem rv_X1_all_4 {d : Nat} {Rq : SmQ} {l : SmL} {st : List SmV} {S : SmS} {I : SmI} (h : tr_X1_all_4 d Rq l st S I) : SW mi_X1_all 4 d Rq l st S I :=
  (show SmW mi_X1_all 4 d Rq (tr_X1_all_4 d Rq) from
  (xv_iload_n dX1_all_4 rfl
  (xv_aload_n dX1_all_5 rfl
  (xv_getI (k := 10) dX1_all_6 cl_2 tg_2 in_X1 (Nat.le_of_ble_eq_true rfl) rfl q216
  (xv_cge dX1_all_9 rfl
  (xv_iload_n dX1_all_26 rfl
  (xv_ireturn dX1_all_27 rfl))
  (xv_bipush dX1_all_12 rfl (inRd rfl)
  (xv_iload_n dX1_all_14 rfl
  (xv_imul dX1_all_15
  (xv_bipush dX1_all_16 rfl (inRd rfl)
  (xv_iadd dX1_all_18
  (xv_istore_n dX1_all_19 rfl (Nat.le_of_ble_eq_true rfl)
  (xv_iinc dX1_all_20 (Nat.le_of_ble_eq_true rfl)
  (xv_goto dX1_all_23 rfl (fun _ _ _ _ h => h)))))))))))))) l st S I h
def tr_X1_still_0 (d : Nat) (Rq : SmQ) (l : SmL) (st : List SmV) (S : SmS) (I : SmI) : Prop :=
  im_ic 0 l st S I fun l st S I =>
  im_istore 2 l st S I fun l st S I =>
  im_aload 0 l st S I fun l st S I =>
  im_getR 2 7 l st S I fun l st S I =>
  im_iload 1 l st S I fun l st S I =>
  im_ald 100 l st S I fun l st S I =>
  im_aload 0 l st S I fun l st S I =>
  im_getR 2 5 l st S I fun l st S I =>
  im_iload 1 l st S I fun l st S I =>
  im_ald 100 l st S I fun l st S I =>
  im_min l st S I fun l st S I =>
  im_istore 3 l st S I fun l st S I =>
  SW mi_X1_still 18 d Rq l st S I
theorem rv_X1_still_0 {d : Nat} {Rq : SmQ} {l : SmL} {st : List SmV} {S : SmS} {I : SmI} (h : tr_X1_still_0 d Rq l st S I) : SW mi_X1_still 0 d Rq l st S I :=
  (show SmW mi_X1_still 0 d Rq (tr_X1_still_0 d Rq) from
  (xv_iconst dX1_still_0 rfl (inRd rfl)
  (xv_istore_n dX1_still_1 rfl (Nat.le_of_ble_eq_true rfl)
  (xv_aload_n dX1_still_2 rfl
  (xv_getR (k := 7) dX1_still_3 cl_2 tg_2 in_X1 (Nat.le_of_ble_eq_true rfl) rfl q210
  (xv_iload_n dX1_still_6 rfl
  (xv_iald dX1_still_7
  (xv_aload_n dX1_still_8 rfl
  (xv_getR (k := 5) dX1_still_9 cl_2 tg_2 in_X1 (Nat.le_of_ble_eq_true rfl) rfl q204
  (xv_iload_n dX1_still_12 rfl
  (xv_iald dX1_still_13
  (xv_min dX1_still_14 q632
  (xv_istore_n dX1_still_17 rfl (Nat.le_of_ble_eq_true rfl)
  (fun _ _ _ _ h => h)))))))))))))) l st S I h
def tr_X1_still_18 (d : Nat) (Rq : SmQ) (l : SmL) (st : List SmV) (S : SmS) (I : SmI) : Prop :=
  im_iload 3 l st S I fun l st S I =>
  im_aload 0 l st S I fun l st S I =>
  im_getR 2 7 l st S I fun l st S I =>
  im_iload 1 l st S I fun l st S I =>
  im_ald 100 l st S I fun l st S I =>
  im_aload 0 l st S I fun l st S I =>
  im_getR 2 5 l st S I fun l st S I =>
  im_iload 1 l st S I fun l st S I =>
  im_ald 100 l st S I fun l st S I =>
  im_max l st S I fun l st S I =>
  im_cge l st S I (fun l st S I =>
  im_iload 2 l st S I fun l st S I =>
  im_ireturn Rq l st S I) (fun l st S I =>
  im_iload 2 l st S I fun l st S I =>
  im_aload 0 l st S I fun l st S I =>
  im_getR 2 2 l st S I fun l st S I =>
  im_iload 3 l st S I fun l st S I =>
  im_ald 100 l st S I fun l st S I =>
  im_iadd l st S I fun l st S I =>
  im_istore 2 l st S I fun l st S I =>
  im_iinc 3 1 l st S I fun l st S I =>
  SW mi_X1_still 18 d Rq l st S I)
theorem rv_X1_still_18 {d : Nat} {Rq : SmQ} {l : SmL} {st : List SmV} {S : SmS} {I : SmI} (h : tr_X1_still_18 d Rq l st S I) : SW mi_X1_still 18 d Rq l st S I :=
  (show SmW mi_X1_still 18 d Rq (tr_X1_still_18 d Rq) from
  (xv_iload_n dX1_still_18 rfl
  (xv_aload_n dX1_still_19 rfl
  (xv_getR (k := 7) dX1_still_20 cl_2 tg_2 in_X1 (Nat.le_of_ble_eq_true rfl) rfl q210
  (xv_iload_n dX1_still_23 rfl
  (xv_iald dX1_still_24
  (xv_aload_n dX1_still_25 rfl
  (xv_getR (k := 5) dX1_still_26 cl_2 tg_2 in_X1 (Nat.le_of_ble_eq_true rfl) rfl q204
  (xv_iload_n dX1_still_29 rfl
  (xv_iald dX1_still_30
  (xv_max dX1_still_31 q660
  (xv_cge dX1_still_34 rfl
  (xv_iload_n dX1_still_52 rfl
  (xv_ireturn dX1_still_53 rfl))
  (xv_iload_n dX1_still_37 rfl
  (xv_aload_n dX1_still_38 rfl
  (xv_getR (k := 2) dX1_still_39 cl_2 tg_2 in_X1 (Nat.le_of_ble_eq_true rfl) rfl q195
  (xv_iload_n dX1_still_42 rfl
  (xv_iald dX1_still_43
  (xv_iadd dX1_still_44
  (xv_istore_n dX1_still_45 rfl (Nat.le_of_ble_eq_true rfl)
  (xv_iinc dX1_still_46 (Nat.le_of_ble_eq_true rfl)
  (xv_goto dX1_still_49 rfl (fun _ _ _ _ h => h)))))))))))))))))))))) l st S I h
def tr_X1_comes_0 (d : Nat) (Rq : SmQ) (l : SmL) (st : List SmV) (S : SmS) (I : SmI) : Prop :=
  im_aload 0 l st S I fun l st S I =>
  im_getR 2 4 l st S I fun l st S I =>
  im_aload 0 l st S I fun l st S I =>
  im_getI 2 10 l st S I fun l st S I =>
  im_iload 1 l st S I fun l st S I =>
  im_iast l st S I fun l st S I =>
  im_aload 0 l st S I fun l st S I =>
  im_getR 2 5 l st S I fun l st S I =>
  im_aload 0 l st S I fun l st S I =>
  im_getI 2 10 l st S I fun l st S I =>
  im_iload 2 l st S I fun l st S I =>
  im_iast l st S I fun l st S I =>
  im_aload 0 l st S I fun l st S I =>
  im_getR 2 6 l st S I fun l st S I =>
  im_aload 0 l st S I fun l st S I =>
  im_getI 2 10 l st S I fun l st S I =>
  im_iload 3 l st S I fun l st S I =>
  im_iast l st S I fun l st S I =>
  im_aload 0 l st S I fun l st S I =>
  im_getR 2 7 l st S I fun l st S I =>
  im_aload 0 l st S I fun l st S I =>
  im_getI 2 10 l st S I fun l st S I =>
  im_iload 1 l st S I fun l st S I =>
  im_iast l st S I fun l st S I =>
  im_aload 0 l st S I fun l st S I =>
  im_getR 2 8 l st S I fun l st S I =>
  im_aload 0 l st S I fun l st S I =>
  im_getI 2 10 l st S I fun l st S I =>
  im_ic 0 l st S I fun l st S I =>
  im_zast l st S I fun l st S I =>
  im_aload 0 l st S I fun l st S I =>
  im_getR 2 9 l st S I fun l st S I =>
  im_aload 0 l st S I fun l st S I =>
  im_getI 2 10 l st S I fun l st S I =>
  im_ic (-4) l st S I fun l st S I =>
  im_iast l st S I fun l st S I =>
  im_aload 0 l st S I fun l st S I =>
  im_dup l st S I fun l st S I =>
  im_getI 2 10 l st S I fun l st S I =>
  im_ic 1 l st S I fun l st S I =>
  im_iadd l st S I fun l st S I =>
  im_putI 2 10 l st S I fun l st S I =>
  im_return Rq l st S I
theorem rv_X1_comes_0 {d : Nat} {Rq : SmQ} {l : SmL} {st : List SmV} {S : SmS} {I : SmI} (h : tr_X1_comes_0 d Rq l st S I) : SW mi_X1_comes 0 d Rq l st S I :=
  (show SmW mi_X1_comes 0 d Rq (tr_X1_comes_0 d Rq) from
  (xv_aload_n dX1_comes_0 rfl
  (xv_getR (k := 4) dX1_comes_1 cl_2 tg_2 in_X1 (Nat.le_of_ble_eq_true rfl) rfl q202
  (xv_aload_n dX1_comes_4 rfl
  (xv_getI (k := 10) dX1_comes_5 cl_2 tg_2 in_X1 (Nat.le_of_ble_eq_true rfl) rfl q216
  (xv_iload_n dX1_comes_8 rfl
  (xv_iast dX1_comes_9
  (xv_aload_n dX1_comes_10 rfl
  (xv_getR (k := 5) dX1_comes_11 cl_2 tg_2 in_X1 (Nat.le_of_ble_eq_true rfl) rfl q204
  (xv_aload_n dX1_comes_14 rfl
  (xv_getI (k := 10) dX1_comes_15 cl_2 tg_2 in_X1 (Nat.le_of_ble_eq_true rfl) rfl q216
  (xv_iload_n dX1_comes_18 rfl
  (xv_iast dX1_comes_19
  (xv_aload_n dX1_comes_20 rfl
  (xv_getR (k := 6) dX1_comes_21 cl_2 tg_2 in_X1 (Nat.le_of_ble_eq_true rfl) rfl q207
  (xv_aload_n dX1_comes_24 rfl
  (xv_getI (k := 10) dX1_comes_25 cl_2 tg_2 in_X1 (Nat.le_of_ble_eq_true rfl) rfl q216
  (xv_iload_n dX1_comes_28 rfl
  (xv_iast dX1_comes_29
  (xv_aload_n dX1_comes_30 rfl
  (xv_getR (k := 7) dX1_comes_31 cl_2 tg_2 in_X1 (Nat.le_of_ble_eq_true rfl) rfl q210
  (xv_aload_n dX1_comes_34 rfl
  (xv_getI (k := 10) dX1_comes_35 cl_2 tg_2 in_X1 (Nat.le_of_ble_eq_true rfl) rfl q216
  (xv_iload_n dX1_comes_38 rfl
  (xv_iast dX1_comes_39
  (xv_aload_n dX1_comes_40 rfl
  (xv_getR (k := 8) dX1_comes_41 cl_2 tg_2 in_X1 (Nat.le_of_ble_eq_true rfl) rfl q212
  (xv_aload_n dX1_comes_44 rfl
  (xv_getI (k := 10) dX1_comes_45 cl_2 tg_2 in_X1 (Nat.le_of_ble_eq_true rfl) rfl q216
  (xv_iconst dX1_comes_48 rfl (inRd rfl)
  (xv_zast dX1_comes_49
  (xv_aload_n dX1_comes_50 rfl
  (xv_getR (k := 9) dX1_comes_51 cl_2 tg_2 in_X1 (Nat.le_of_ble_eq_true rfl) rfl q214
  (xv_aload_n dX1_comes_54 rfl
  (xv_getI (k := 10) dX1_comes_55 cl_2 tg_2 in_X1 (Nat.le_of_ble_eq_true rfl) rfl q216
  (xv_bipush dX1_comes_58 rfl (inRd rfl)
  (xv_iast dX1_comes_60
  (xv_aload_n dX1_comes_61 rfl
  (xv_dup dX1_comes_62
  (xv_getI (k := 10) dX1_comes_63 cl_2 tg_2 in_X1 (Nat.le_of_ble_eq_true rfl) rfl q216
  (xv_iconst dX1_comes_66 rfl (inRd rfl)
  (xv_iadd dX1_comes_67
  (xv_putI (k := 10) dX1_comes_68 cl_2 tg_2 in_X1 tyX1_ok nmX1 (Nat.le_of_ble_eq_true rfl) rfl ⟨Or.inl q216, Or.inl rfl⟩
  (xv_return dX1_comes_71 rfl)))))))))))))))))))))))))))))))))))))))))))) l st S I h
def tr_X1_moves_0 (d : Nat) (Rq : SmQ) (l : SmL) (st : List SmV) (S : SmS) (I : SmI) : Prop :=
  im_aload 0 l st S I fun l st S I =>
  im_getR 2 4 l st S I fun l st S I =>
  im_iload 3 l st S I fun l st S I =>
  im_aload 1 l st S I fun l st S I =>
  im_getR 2 4 l st S I fun l st S I =>
  im_iload 2 l st S I fun l st S I =>
  im_ald 100 l st S I fun l st S I =>
  im_iast l st S I fun l st S I =>
  im_aload 0 l st S I fun l st S I =>
  im_getR 2 5 l st S I fun l st S I =>
  im_iload 3 l st S I fun l st S I =>
  im_aload 1 l st S I fun l st S I =>
  im_getR 2 5 l st S I fun l st S I =>
  im_iload 2 l st S I fun l st S I =>
  im_ald 100 l st S I fun l st S I =>
  im_iast l st S I fun l st S I =>
  im_aload 0 l st S I fun l st S I =>
  im_getR 2 6 l st S I fun l st S I =>
  im_iload 3 l st S I fun l st S I =>
  im_aload 1 l st S I fun l st S I =>
  im_getR 2 6 l st S I fun l st S I =>
  im_iload 2 l st S I fun l st S I =>
  im_ald 100 l st S I fun l st S I =>
  im_iast l st S I fun l st S I =>
  im_aload 0 l st S I fun l st S I =>
  im_getR 2 7 l st S I fun l st S I =>
  im_iload 3 l st S I fun l st S I =>
  im_aload 1 l st S I fun l st S I =>
  im_getR 2 7 l st S I fun l st S I =>
  im_iload 2 l st S I fun l st S I =>
  im_ald 100 l st S I fun l st S I =>
  im_iast l st S I fun l st S I =>
  im_aload 0 l st S I fun l st S I =>
  im_getR 2 8 l st S I fun l st S I =>
  im_iload 3 l st S I fun l st S I =>
  im_aload 1 l st S I fun l st S I =>
  im_getR 2 8 l st S I fun l st S I =>
  im_iload 2 l st S I fun l st S I =>
  im_ald 102 l st S I fun l st S I =>
  im_zast l st S I fun l st S I =>
  im_aload 0 l st S I fun l st S I =>
  im_getR 2 9 l st S I fun l st S I =>
  im_iload 3 l st S I fun l st S I =>
  im_aload 1 l st S I fun l st S I =>
  im_getR 2 9 l st S I fun l st S I =>
  im_iload 2 l st S I fun l st S I =>
  im_ald 100 l st S I fun l st S I =>
  im_iast l st S I fun l st S I =>
  im_return Rq l st S I
theorem rv_X1_moves_0 {d : Nat} {Rq : SmQ} {l : SmL} {st : List SmV} {S : SmS} {I : SmI} (h : tr_X1_moves_0 d Rq l st S I) : SW mi_X1_moves 0 d Rq l st S I :=
  (show SmW mi_X1_moves 0 d Rq (tr_X1_moves_0 d Rq) from
  (xv_aload_n dX1_moves_0 rfl
  (xv_getR (k := 4) dX1_moves_1 cl_2 tg_2 in_X1 (Nat.le_of_ble_eq_true rfl) rfl q202
  (xv_iload_n dX1_moves_4 rfl
  (xv_aload_n dX1_moves_5 rfl
  (xv_getR (k := 4) dX1_moves_6 cl_2 tg_2 in_X1 (Nat.le_of_ble_eq_true rfl) rfl q202
  (xv_iload_n dX1_moves_9 rfl
  (xv_iald dX1_moves_10
  (xv_iast dX1_moves_11
  (xv_aload_n dX1_moves_12 rfl
  (xv_getR (k := 5) dX1_moves_13 cl_2 tg_2 in_X1 (Nat.le_of_ble_eq_true rfl) rfl q204
  (xv_iload_n dX1_moves_16 rfl
  (xv_aload_n dX1_moves_17 rfl
  (xv_getR (k := 5) dX1_moves_18 cl_2 tg_2 in_X1 (Nat.le_of_ble_eq_true rfl) rfl q204
  (xv_iload_n dX1_moves_21 rfl
  (xv_iald dX1_moves_22
  (xv_iast dX1_moves_23
  (xv_aload_n dX1_moves_24 rfl
  (xv_getR (k := 6) dX1_moves_25 cl_2 tg_2 in_X1 (Nat.le_of_ble_eq_true rfl) rfl q207
  (xv_iload_n dX1_moves_28 rfl
  (xv_aload_n dX1_moves_29 rfl
  (xv_getR (k := 6) dX1_moves_30 cl_2 tg_2 in_X1 (Nat.le_of_ble_eq_true rfl) rfl q207
  (xv_iload_n dX1_moves_33 rfl
  (xv_iald dX1_moves_34
  (xv_iast dX1_moves_35
  (xv_aload_n dX1_moves_36 rfl
  (xv_getR (k := 7) dX1_moves_37 cl_2 tg_2 in_X1 (Nat.le_of_ble_eq_true rfl) rfl q210
  (xv_iload_n dX1_moves_40 rfl
  (xv_aload_n dX1_moves_41 rfl
  (xv_getR (k := 7) dX1_moves_42 cl_2 tg_2 in_X1 (Nat.le_of_ble_eq_true rfl) rfl q210
  (xv_iload_n dX1_moves_45 rfl
  (xv_iald dX1_moves_46
  (xv_iast dX1_moves_47
  (xv_aload_n dX1_moves_48 rfl
  (xv_getR (k := 8) dX1_moves_49 cl_2 tg_2 in_X1 (Nat.le_of_ble_eq_true rfl) rfl q212
  (xv_iload_n dX1_moves_52 rfl
  (xv_aload_n dX1_moves_53 rfl
  (xv_getR (k := 8) dX1_moves_54 cl_2 tg_2 in_X1 (Nat.le_of_ble_eq_true rfl) rfl q212
  (xv_iload_n dX1_moves_57 rfl
  (xv_zald dX1_moves_58
  (xv_zast dX1_moves_59
  (xv_aload_n dX1_moves_60 rfl
  (xv_getR (k := 9) dX1_moves_61 cl_2 tg_2 in_X1 (Nat.le_of_ble_eq_true rfl) rfl q214
  (xv_iload_n dX1_moves_64 rfl
  (xv_aload_n dX1_moves_65 rfl
  (xv_getR (k := 9) dX1_moves_66 cl_2 tg_2 in_X1 (Nat.le_of_ble_eq_true rfl) rfl q214
  (xv_iload_n dX1_moves_69 rfl
  (xv_iald dX1_moves_70
  (xv_iast dX1_moves_71
  (xv_return dX1_moves_72 rfl)))))))))))))))))))))))))))))))))))))))))))))))))) l st S I h
def tr_X1_takes_0 (d : Nat) (Rq : SmQ) (l : SmL) (st : List SmV) (S : SmS) (I : SmI) : Prop :=
  im_ic 0 l st S I fun l st S I =>
  im_istore 2 l st S I fun l st S I =>
  SW mi_X1_takes 2 d Rq l st S I
theorem rv_X1_takes_0 {d : Nat} {Rq : SmQ} {l : SmL} {st : List SmV} {S : SmS} {I : SmI} (h : tr_X1_takes_0 d Rq l st S I) : SW mi_X1_takes 0 d Rq l st S I :=
  (show SmW mi_X1_takes 0 d Rq (tr_X1_takes_0 d Rq) from
  (xv_iconst dX1_takes_0 rfl (inRd rfl)
  (xv_istore_n dX1_takes_1 rfl (Nat.le_of_ble_eq_true rfl)
  (fun _ _ _ _ h => h)))) l st S I h
def tr_X1_takes_2 (d : Nat) (Rq : SmQ) (l : SmL) (st : List SmV) (S : SmS) (I : SmI) : Prop :=
  im_iload 2 l st S I fun l st S I =>
  im_ic 6 l st S I fun l st S I =>
  im_cge l st S I (fun l st S I =>
  im_aload 0 l st S I fun l st S I =>
  im_aload 1 l st S I fun l st S I =>
  im_getI 2 3 l st S I fun l st S I =>
  im_putI 2 3 l st S I fun l st S I =>
  im_ic 0 l st S I fun l st S I =>
  im_istore 2 l st S I fun l st S I =>
  SW mi_X1_takes 66 d Rq l st S I) (fun l st S I =>
  im_aload 1 l st S I fun l st S I =>
  im_getR 2 0 l st S I fun l st S I =>
  im_iload 2 l st S I fun l st S I =>
  im_aald 104 l st S I fun l st S I =>
  im_ic 0 l st S I fun l st S I =>
  im_aload 0 l st S I fun l st S I =>
  im_getR 2 0 l st S I fun l st S I =>
  im_iload 2 l st S I fun l st S I =>
  im_aald 104 l st S I fun l st S I =>
  im_ic 0 l st S I fun l st S I =>
  im_ic 3 l st S I fun l st S I =>
  im_copyI l st S I fun l st S I =>
  im_aload 0 l st S I fun l st S I =>
  im_getR 2 1 l st S I fun l st S I =>
  im_iload 2 l st S I fun l st S I =>
  im_aload 1 l st S I fun l st S I =>
  im_getR 2 1 l st S I fun l st S I =>
  im_iload 2 l st S I fun l st S I =>
  im_ald 100 l st S I fun l st S I =>
  im_iast l st S I fun l st S I =>
  im_aload 0 l st S I fun l st S I =>
  im_getR 2 2 l st S I fun l st S I =>
  im_iload 2 l st S I fun l st S I =>
  im_aload 1 l st S I fun l st S I =>
  im_getR 2 2 l st S I fun l st S I =>
  im_iload 2 l st S I fun l st S I =>
  im_ald 100 l st S I fun l st S I =>
  im_iast l st S I fun l st S I =>
  im_iinc 2 1 l st S I fun l st S I =>
  SW mi_X1_takes 2 d Rq l st S I)
theorem rv_X1_takes_2 {d : Nat} {Rq : SmQ} {l : SmL} {st : List SmV} {S : SmS} {I : SmI} (h : tr_X1_takes_2 d Rq l st S I) : SW mi_X1_takes 2 d Rq l st S I :=
  (show SmW mi_X1_takes 2 d Rq (tr_X1_takes_2 d Rq) from
  (xv_iload_n dX1_takes_2 rfl
  (xv_bipush dX1_takes_3 rfl (inRd rfl)
  (xv_cge dX1_takes_5 rfl
  (xv_aload_n dX1_takes_56 rfl
  (xv_aload_n dX1_takes_57 rfl
  (xv_getI (k := 3) dX1_takes_58 cl_2 tg_2 in_X1 (Nat.le_of_ble_eq_true rfl) rfl q198
  (xv_putI (k := 3) dX1_takes_61 cl_2 tg_2 in_X1 tyX1_ok nmX1 (Nat.le_of_ble_eq_true rfl) rfl ⟨Or.inl q198, Or.inl rfl⟩
  (xv_iconst dX1_takes_64 rfl (inRd rfl)
  (xv_istore_n dX1_takes_65 rfl (Nat.le_of_ble_eq_true rfl)
  (fun _ _ _ _ h => h)))))))
  (xv_aload_n dX1_takes_8 rfl
  (xv_getR (k := 0) dX1_takes_9 cl_2 tg_2 in_X1 (Nat.le_of_ble_eq_true rfl) rfl q187
  (xv_iload_n dX1_takes_12 rfl
  (xv_aald dX1_takes_13 ⟨(Nat.le_of_ble_eq_true rfl), (Nat.le_of_ble_eq_true rfl)⟩
  (xv_iconst dX1_takes_14 rfl (inRd rfl)
  (xv_aload_n dX1_takes_15 rfl
  (xv_getR (k := 0) dX1_takes_16 cl_2 tg_2 in_X1 (Nat.le_of_ble_eq_true rfl) rfl q187
  (xv_iload_n dX1_takes_19 rfl
  (xv_aald dX1_takes_20 ⟨(Nat.le_of_ble_eq_true rfl), (Nat.le_of_ble_eq_true rfl)⟩
  (xv_iconst dX1_takes_21 rfl (inRd rfl)
  (xv_iconst dX1_takes_22 rfl (inRd rfl)
  (xv_copyI dX1_takes_23 q535
  (xv_aload_n dX1_takes_26 rfl
  (xv_getR (k := 1) dX1_takes_27 cl_2 tg_2 in_X1 (Nat.le_of_ble_eq_true rfl) rfl q191
  (xv_iload_n dX1_takes_30 rfl
  (xv_aload_n dX1_takes_31 rfl
  (xv_getR (k := 1) dX1_takes_32 cl_2 tg_2 in_X1 (Nat.le_of_ble_eq_true rfl) rfl q191
  (xv_iload_n dX1_takes_35 rfl
  (xv_iald dX1_takes_36
  (xv_iast dX1_takes_37
  (xv_aload_n dX1_takes_38 rfl
  (xv_getR (k := 2) dX1_takes_39 cl_2 tg_2 in_X1 (Nat.le_of_ble_eq_true rfl) rfl q195
  (xv_iload_n dX1_takes_42 rfl
  (xv_aload_n dX1_takes_43 rfl
  (xv_getR (k := 2) dX1_takes_44 cl_2 tg_2 in_X1 (Nat.le_of_ble_eq_true rfl) rfl q195
  (xv_iload_n dX1_takes_47 rfl
  (xv_iald dX1_takes_48
  (xv_iast dX1_takes_49
  (xv_iinc dX1_takes_50 (Nat.le_of_ble_eq_true rfl)
  (xv_goto dX1_takes_53 rfl (fun _ _ _ _ h => h))))))))))))))))))))))))))))))))))) l st S I h
def tr_X1_takes_66 (d : Nat) (Rq : SmQ) (l : SmL) (st : List SmV) (S : SmS) (I : SmI) : Prop :=
  im_iload 2 l st S I fun l st S I =>
  im_ic 4 l st S I fun l st S I =>
  im_cge l st S I (fun l st S I =>
  im_aload 0 l st S I fun l st S I =>
  im_aload 1 l st S I fun l st S I =>
  im_getI 2 10 l st S I fun l st S I =>
  im_putI 2 10 l st S I fun l st S I =>
  im_aload 0 l st S I fun l st S I =>
  im_aload 1 l st S I fun l st S I =>
  im_getI 2 11 l st S I fun l st S I =>
  im_putI 2 11 l st S I fun l st S I =>
  im_return Rq l st S I) (fun l st S I =>
  im_aload 0 l st S I fun l st S I =>
  im_aload 1 l st S I fun l st S I =>
  im_iload 2 l st S I fun l st S I =>
  im_iload 2 l st S I fun l st S I =>
  im_callV 3 2 mi_X1_moves d (retK mi_X1_takes 75 78 d Rq l) st S I)
theorem rv_X1_takes_66 {d : Nat} {Rq : SmQ} {l : SmL} {st : List SmV} {S : SmS} {I : SmI} (h : tr_X1_takes_66 d Rq l st S I) : SW mi_X1_takes 66 d Rq l st S I :=
  (show SmW mi_X1_takes 66 d Rq (tr_X1_takes_66 d Rq) from
  (xv_iload_n dX1_takes_66 rfl
  (xv_iconst dX1_takes_67 rfl (inRd rfl)
  (xv_cge dX1_takes_68 rfl
  (xv_aload_n dX1_takes_84 rfl
  (xv_aload_n dX1_takes_85 rfl
  (xv_getI (k := 10) dX1_takes_86 cl_2 tg_2 in_X1 (Nat.le_of_ble_eq_true rfl) rfl q216
  (xv_putI (k := 10) dX1_takes_89 cl_2 tg_2 in_X1 tyX1_ok nmX1 (Nat.le_of_ble_eq_true rfl) rfl ⟨Or.inl q216, Or.inl rfl⟩
  (xv_aload_n dX1_takes_92 rfl
  (xv_aload_n dX1_takes_93 rfl
  (xv_getI (k := 11) dX1_takes_94 cl_2 tg_2 in_X1 (Nat.le_of_ble_eq_true rfl) rfl q220
  (xv_putI (k := 11) dX1_takes_97 cl_2 tg_2 in_X1 tyX1_ok nmX1 (Nat.le_of_ble_eq_true rfl) rfl ⟨Or.inl q220, Or.inl rfl⟩
  (xv_return dX1_takes_100 rfl)))))))))
  (xv_aload_n dX1_takes_71 rfl
  (xv_aload_n dX1_takes_72 rfl
  (xv_iload_n dX1_takes_73 rfl
  (xv_iload_n dX1_takes_74 rfl
  (xv_callV dX1_takes_75 cl_2 tg_2 ok_X1_moves rfl (lw_V q536 q537 q538 q105 q539)))))))))) l st S I h
def tr_X1_takes_78 (d : Nat) (Rq : SmQ) (l : SmL) (st : List SmV) (S : SmS) (I : SmI) : Prop :=
  im_iinc 2 1 l st S I fun l st S I =>
  SW mi_X1_takes 66 d Rq l st S I
theorem rv_X1_takes_78 {d : Nat} {Rq : SmQ} {l : SmL} {st : List SmV} {S : SmS} {I : SmI} (h : tr_X1_takes_78 d Rq l st S I) : SW mi_X1_takes 78 d Rq l st S I :=
  (show SmW mi_X1_takes 78 d Rq (tr_X1_takes_78 d Rq) from
  (xv_iinc dX1_takes_78 (Nat.le_of_ble_eq_true rfl)
  (xv_goto dX1_takes_81 rfl (fun _ _ _ _ h => h)))) l st S I h
def tr_X0_isIn_0 (d : Nat) (Rq : SmQ) (l : SmL) (st : List SmV) (S : SmS) (I : SmI) : Prop :=
  im_lload 0 l st S I fun l st S I =>
  im_lload 2 l st S I fun l st S I =>
  im_lcmp l st S I fun l st S I =>
  im_zlt l st S I (fun l st S I =>
  im_ic 0 l st S I fun l st S I =>
  im_zreturn Rq l st S I) (fun l st S I =>
  im_lload 0 l st S I fun l st S I =>
  im_lload 4 l st S I fun l st S I =>
  im_lcmp l st S I fun l st S I =>
  im_zgt l st S I (fun l st S I =>
  im_ic 0 l st S I fun l st S I =>
  im_zreturn Rq l st S I) (fun l st S I =>
  im_ic 1 l st S I fun l st S I =>
  im_zreturn Rq l st S I))
theorem rv_X0_isIn_0 {d : Nat} {Rq : SmQ} {l : SmL} {st : List SmV} {S : SmS} {I : SmI} (h : tr_X0_isIn_0 d Rq l st S I) : SW mi_X0_isIn 0 d Rq l st S I :=
  (show SmW mi_X0_isIn 0 d Rq (tr_X0_isIn_0 d Rq) from
  (xv_lload_n dX0_isIn_0 rfl
  (xv_lload_n dX0_isIn_1 rfl
  (xv_lcmp dX0_isIn_2
  (xv_zlt dX0_isIn_3 rfl
  (xv_iconst dX0_isIn_17 rfl (inRd rfl)
  (xv_zreturn dX0_isIn_18 rfl))
  (xv_lload_n dX0_isIn_6 rfl
  (xv_lload dX0_isIn_7
  (xv_lcmp dX0_isIn_9
  (xv_zgt dX0_isIn_10 rfl
  (xv_iconst dX0_isIn_17 rfl (inRd rfl)
  (xv_zreturn dX0_isIn_18 rfl))
  (xv_iconst dX0_isIn_13 rfl (inRd rfl)
  (xv_goto dX0_isIn_14 rfl (xv_zreturn dX0_isIn_18 rfl)))))))))))) l st S I h
def tr_X0_has_0 (d : Nat) (Rq : SmQ) (l : SmL) (st : List SmV) (S : SmS) (I : SmI) : Prop :=
  im_iload 0 l st S I fun l st S I =>
  im_iload 1 l st S I fun l st S I =>
  im_ishr l st S I fun l st S I =>
  im_ic 1 l st S I fun l st S I =>
  im_iand l st S I fun l st S I =>
  im_ic 1 l st S I fun l st S I =>
  im_cne l st S I (fun l st S I =>
  im_ic 0 l st S I fun l st S I =>
  im_zreturn Rq l st S I) (fun l st S I =>
  im_ic 1 l st S I fun l st S I =>
  im_zreturn Rq l st S I)
theorem rv_X0_has_0 {d : Nat} {Rq : SmQ} {l : SmL} {st : List SmV} {S : SmS} {I : SmI} (h : tr_X0_has_0 d Rq l st S I) : SW mi_X0_has 0 d Rq l st S I :=
  (show SmW mi_X0_has 0 d Rq (tr_X0_has_0 d Rq) from
  (xv_iload_n dX0_has_0 rfl
  (xv_iload_n dX0_has_1 rfl
  (xv_ishr dX0_has_2
  (xv_iconst dX0_has_3 rfl (inRd rfl)
  (xv_iand dX0_has_4
  (xv_iconst dX0_has_5 rfl (inRd rfl)
  (xv_cne dX0_has_6 rfl
  (xv_iconst dX0_has_13 rfl (inRd rfl)
  (xv_zreturn dX0_has_14 rfl))
  (xv_iconst dX0_has_9 rfl (inRd rfl)
  (xv_goto dX0_has_10 rfl (xv_zreturn dX0_has_14 rfl))))))))))) l st S I h
def tr_X0_placeIn_0 (d : Nat) (Rq : SmQ) (l : SmL) (st : List SmV) (S : SmS) (I : SmI) : Prop :=
  im_iload 0 l st S I fun l st S I =>
  im_istore 2 l st S I fun l st S I =>
  im_ic 0 l st S I fun l st S I =>
  im_istore 3 l st S I fun l st S I =>
  SW mi_X0_placeIn 4 d Rq l st S I
theorem rv_X0_placeIn_0 {d : Nat} {Rq : SmQ} {l : SmL} {st : List SmV} {S : SmS} {I : SmI} (h : tr_X0_placeIn_0 d Rq l st S I) : SW mi_X0_placeIn 0 d Rq l st S I :=
  (show SmW mi_X0_placeIn 0 d Rq (tr_X0_placeIn_0 d Rq) from
  (xv_iload_n dX0_placeIn_0 rfl
  (xv_istore_n dX0_placeIn_1 rfl (Nat.le_of_ble_eq_true rfl)
  (xv_iconst dX0_placeIn_2 rfl (inRd rfl)
  (xv_istore_n dX0_placeIn_3 rfl (Nat.le_of_ble_eq_true rfl)
  (fun _ _ _ _ h => h)))))) l st S I h
def tr_X0_placeIn_4 (d : Nat) (Rq : SmQ) (l : SmL) (st : List SmV) (S : SmS) (I : SmI) : Prop :=
  im_iload 3 l st S I fun l st S I =>
  im_iload 1 l st S I fun l st S I =>
  im_cge l st S I (fun l st S I =>
  im_iload 2 l st S I fun l st S I =>
  im_ic 7 l st S I fun l st S I =>
  im_irem l st S I fun l st S I =>
  im_ireturn Rq l st S I) (fun l st S I =>
  im_iload 2 l st S I fun l st S I =>
  im_ic 7 l st S I fun l st S I =>
  im_idiv l st S I fun l st S I =>
  im_istore 2 l st S I fun l st S I =>
  im_iinc 3 1 l st S I fun l st S I =>
  SW mi_X0_placeIn 4 d Rq l st S I)
theorem rv_X0_placeIn_4 {d : Nat} {Rq : SmQ} {l : SmL} {st : List SmV} {S : SmS} {I : SmI} (h : tr_X0_placeIn_4 d Rq l st S I) : SW mi_X0_placeIn 4 d Rq l st S I :=
  (show SmW mi_X0_placeIn 4 d Rq (tr_X0_placeIn_4 d Rq) from
  (xv_iload_n dX0_placeIn_4 rfl
  (xv_iload_n dX0_placeIn_5 rfl
  (xv_cge dX0_placeIn_6 rfl
  (xv_iload_n dX0_placeIn_20 rfl
  (xv_bipush dX0_placeIn_21 rfl (inRd rfl)
  (xv_irem dX0_placeIn_23
  (xv_ireturn dX0_placeIn_24 rfl))))
  (xv_iload_n dX0_placeIn_9 rfl
  (xv_bipush dX0_placeIn_10 rfl (inRd rfl)
  (xv_idiv dX0_placeIn_12
  (xv_istore_n dX0_placeIn_13 rfl (Nat.le_of_ble_eq_true rfl)
  (xv_iinc dX0_placeIn_14 (Nat.le_of_ble_eq_true rfl)
  (xv_goto dX0_placeIn_17 rfl (fun _ _ _ _ h => h))))))))))) l st S I h
def tr_X0_powerOf_0 (d : Nat) (Rq : SmQ) (l : SmL) (st : List SmV) (S : SmS) (I : SmI) : Prop :=
  im_ic 1 l st S I fun l st S I =>
  im_istore 1 l st S I fun l st S I =>
  im_ic 0 l st S I fun l st S I =>
  im_istore 2 l st S I fun l st S I =>
  SW mi_X0_powerOf 4 d Rq l st S I
theorem rv_X0_powerOf_0 {d : Nat} {Rq : SmQ} {l : SmL} {st : List SmV} {S : SmS} {I : SmI} (h : tr_X0_powerOf_0 d Rq l st S I) : SW mi_X0_powerOf 0 d Rq l st S I :=
  (show SmW mi_X0_powerOf 0 d Rq (tr_X0_powerOf_0 d Rq) from
  (xv_iconst dX0_powerOf_0 rfl (inRd rfl)
  (xv_istore_n dX0_powerOf_1 rfl (Nat.le_of_ble_eq_true rfl)
  (xv_iconst dX0_powerOf_2 rfl (inRd rfl)
  (xv_istore_n dX0_powerOf_3 rfl (Nat.le_of_ble_eq_true rfl)
  (fun _ _ _ _ h => h)))))) l st S I h
def tr_X0_powerOf_4 (d : Nat) (Rq : SmQ) (l : SmL) (st : List SmV) (S : SmS) (I : SmI) : Prop :=
  im_iload 2 l st S I fun l st S I =>
  im_iload 0 l st S I fun l st S I =>
  im_cge l st S I (fun l st S I =>
  im_iload 1 l st S I fun l st S I =>
  im_ireturn Rq l st S I) (fun l st S I =>
  im_iload 1 l st S I fun l st S I =>
  im_ic 7 l st S I fun l st S I =>
  im_imul l st S I fun l st S I =>
  im_istore 1 l st S I fun l st S I =>
  im_iinc 2 1 l st S I fun l st S I =>
  SW mi_X0_powerOf 4 d Rq l st S I)
theorem rv_X0_powerOf_4 {d : Nat} {Rq : SmQ} {l : SmL} {st : List SmV} {S : SmS} {I : SmI} (h : tr_X0_powerOf_4 d Rq l st S I) : SW mi_X0_powerOf 4 d Rq l st S I :=
  (show SmW mi_X0_powerOf 4 d Rq (tr_X0_powerOf_4 d Rq) from
  (xv_iload_n dX0_powerOf_4 rfl
  (xv_iload_n dX0_powerOf_5 rfl
  (xv_cge dX0_powerOf_6 rfl
  (xv_iload_n dX0_powerOf_20 rfl
  (xv_ireturn dX0_powerOf_21 rfl))
  (xv_iload_n dX0_powerOf_9 rfl
  (xv_bipush dX0_powerOf_10 rfl (inRd rfl)
  (xv_imul dX0_powerOf_12
  (xv_istore_n dX0_powerOf_13 rfl (Nat.le_of_ble_eq_true rfl)
  (xv_iinc dX0_powerOf_14 (Nat.le_of_ble_eq_true rfl)
  (xv_goto dX0_powerOf_17 rfl (fun _ _ _ _ h => h))))))))))) l st S I h
