/-! regions of methods, printed by gen/regions.py -/
set_option maxRecDepth 100000
/- X1_section: cut at [0] -/
abbrev mi_X1_section : SmM := (yX1_section, cX1_section, 2, (some FieldType.int : Option FieldType), [])
theorem ok_X1_section : callOk mi_X1_section 1 := ⟨rfl, rfl, Nat.le_of_ble_eq_true rfl, by decide, by decide, by decide +kernel⟩
theorem ent_X1_section (x : Option Nat) (x0 : Int) : entL (mL mi_X1_section) [vR x, vI x0] = [some (vR x), some (vI x0)] := rfl
/- X0_isPlace: cut at [0] -/
abbrev mi_X0_isPlace : SmM := (yX0_isPlace, cX0_isPlace, 2, (some FieldType.boolean : Option FieldType), [])
theorem ok_X0_isPlace : callOk mi_X0_isPlace 1 := ⟨rfl, rfl, Nat.le_of_ble_eq_true rfl, by decide, by decide, by decide +kernel⟩
theorem ent_X0_isPlace (x : Option Nat) (x0 : Int) : entL (mL mi_X0_isPlace) [vR x, vI x0] = [some (vR x), some (vI x0)] := rfl
/- X0_isTrain: cut at [0] -/
abbrev mi_X0_isTrain : SmM := (yX0_isTrain, cX0_isTrain, 2, (some FieldType.boolean : Option FieldType), [])
theorem ok_X0_isTrain : callOk mi_X0_isTrain 1 := ⟨rfl, rfl, Nat.le_of_ble_eq_true rfl, by decide, by decide, by decide +kernel⟩
theorem ent_X0_isTrain (x : Option Nat) (x0 : Int) : entL (mL mi_X0_isTrain) [vR x, vI x0] = [some (vR x), some (vI x0)] := rfl
/- X0_isLess: cut at [0] -/
abbrev mi_X0_isLess : SmM := (yX0_isLess, cX0_isLess, 3, (some FieldType.boolean : Option FieldType), [])
theorem ok_X0_isLess : callOk mi_X0_isLess 2 := ⟨rfl, rfl, Nat.le_of_ble_eq_true rfl, by decide, by decide, by decide +kernel⟩
theorem ent_X0_isLess (x : Option Nat) (x0 : Int) (x1 : Int) : entL (mL mi_X0_isLess) [vR x, vI x0, vI x1] = [some (vR x), some (vI x0), some (vI x1)] := rfl
def tr_X1_section_0 (d : Nat) (Rq : SmQ) (l : SmL) (st : List SmV) (S : SmS) (I : SmI) : Prop :=
  im_aload 0 l st S I fun l st S I =>
  im_getR 2 8 l st S I fun l st S I =>
  im_iload 1 l st S I fun l st S I =>
  im_ald 102 l st S I fun l st S I =>
  im_zeq l st S I (fun l st S I =>
  im_aload 0 l st S I fun l st S I =>
  im_getR 2 7 l st S I fun l st S I =>
  im_iload 1 l st S I fun l st S I =>
  im_ald 100 l st S I fun l st S I =>
  im_aload 0 l st S I fun l st S I =>
  im_getR 2 7 l st S I fun l st S I =>
  im_iload 1 l st S I fun l st S I =>
  im_ald 100 l st S I fun l st S I =>
  im_aload 0 l st S I fun l st S I =>
  im_iload 1 l st S I fun l st S I =>
  im_p_X1_way d l st S I fun l st S I =>
  im_iadd l st S I fun l st S I =>
  im_min l st S I fun l st S I =>
  im_ireturn Rq l st S I) (fun l st S I =>
  im_aload 0 l st S I fun l st S I =>
  im_getR 2 7 l st S I fun l st S I =>
  im_iload 1 l st S I fun l st S I =>
  im_ald 100 l st S I fun l st S I =>
  im_aload 0 l st S I fun l st S I =>
  im_getR 2 7 l st S I fun l st S I =>
  im_iload 1 l st S I fun l st S I =>
  im_ald 100 l st S I fun l st S I =>
  im_aload 0 l st S I fun l st S I =>
  im_iload 1 l st S I fun l st S I =>
  im_p_X1_way d l st S I fun l st S I =>
  im_isub l st S I fun l st S I =>
  im_min l st S I fun l st S I =>
  im_ireturn Rq l st S I)
theorem rv_X1_section_0 {d : Nat} {Rq : SmQ} {l : SmL} {st : List SmV} {S : SmS} {I : SmI} (h : tr_X1_section_0 d Rq l st S I) : SW mi_X1_section 0 d Rq l st S I :=
  (show SmW mi_X1_section 0 d Rq (tr_X1_section_0 d Rq) from
  (xv_aload_n dX1_section_0 rfl
  (xv_getR (k := 8) dX1_section_1 cl_2 tg_2 in_X1 (Nat.le_of_ble_eq_true rfl) rfl q212
  (xv_iload_n dX1_section_4 rfl
  (xv_zald dX1_section_5
  (xv_zeq dX1_section_6 rfl
  (xv_aload_n dX1_section_33 rfl
  (xv_getR (k := 7) dX1_section_34 cl_2 tg_2 in_X1 (Nat.le_of_ble_eq_true rfl) rfl q210
  (xv_iload_n dX1_section_37 rfl
  (xv_iald dX1_section_38
  (xv_aload_n dX1_section_39 rfl
  (xv_getR (k := 7) dX1_section_40 cl_2 tg_2 in_X1 (Nat.le_of_ble_eq_true rfl) rfl q210
  (xv_iload_n dX1_section_43 rfl
  (xv_iald dX1_section_44
  (xv_aload_n dX1_section_45 rfl
  (xv_iload_n dX1_section_46 rfl
  (xv_p_X1_way dX1_section_47 (lw_V q631 q524 q525 q105 q526)
  (xv_iadd dX1_section_50
  (xv_min dX1_section_51 q632
  (xv_ireturn dX1_section_54 rfl))))))))))))))
  (xv_aload_n dX1_section_9 rfl
  (xv_getR (k := 7) dX1_section_10 cl_2 tg_2 in_X1 (Nat.le_of_ble_eq_true rfl) rfl q210
  (xv_iload_n dX1_section_13 rfl
  (xv_iald dX1_section_14
  (xv_aload_n dX1_section_15 rfl
  (xv_getR (k := 7) dX1_section_16 cl_2 tg_2 in_X1 (Nat.le_of_ble_eq_true rfl) rfl q210
  (xv_iload_n dX1_section_19 rfl
  (xv_iald dX1_section_20
  (xv_aload_n dX1_section_21 rfl
  (xv_iload_n dX1_section_22 rfl
  (xv_p_X1_way dX1_section_23 (lw_V q631 q524 q525 q105 q526)
  (xv_isub dX1_section_26
  (xv_min dX1_section_27 q632
  (xv_goto dX1_section_30 rfl (xv_ireturn dX1_section_54 rfl))))))))))))))))))))) l st S I h
def tr_X0_isPlace_0 (d : Nat) (Rq : SmQ) (l : SmL) (st : List SmV) (S : SmS) (I : SmI) : Prop :=
  im_iload 1 l st S I fun l st S I =>
  im_i2l l st S I fun l st S I =>
  im_lc 0 l st S I fun l st S I =>
  im_aload 0 l st S I fun l st S I =>
  im_getR 1 3 l st S I fun l st S I =>
  im_getI 2 3 l st S I fun l st S I =>
  im_ic 1 l st S I fun l st S I =>
  im_isub l st S I fun l st S I =>
  im_i2l l st S I fun l st S I =>
  im_p_X0_isIn d l st S I fun l st S I =>
  im_zreturn Rq l st S I
theorem rv_X0_isPlace_0 {d : Nat} {Rq : SmQ} {l : SmL} {st : List SmV} {S : SmS} {I : SmI} (h : tr_X0_isPlace_0 d Rq l st S I) : SW mi_X0_isPlace 0 d Rq l st S I :=
  (show SmW mi_X0_isPlace 0 d Rq (tr_X0_isPlace_0 d Rq) from
  (xv_iload_n dX0_isPlace_0 rfl
  (xv_i2l dX0_isPlace_1
  (xv_lconst dX0_isPlace_2 rfl (inR64d rfl)
  (xv_aload_n dX0_isPlace_3 rfl
  (xv_getR (k := 3) dX0_isPlace_4 cl_1 tg_1 in_X0 (Nat.le_of_ble_eq_true rfl) rfl q1710
  (xv_getIN (k := 3) dX0_isPlace_7 cl_2 tg_2 in_X1 (Nat.le_of_ble_eq_true rfl) rfl q201
  (xv_iconst dX0_isPlace_10 rfl (inRd rfl)
  (xv_isub dX0_isPlace_11
  (xv_i2l dX0_isPlace_12
  (xv_p_X0_isIn dX0_isPlace_13 (lw_S q156 q157 q104 q158)
  (xv_zreturn dX0_isPlace_16 rfl)))))))))))) l st S I h
def tr_X0_isTrain_0 (d : Nat) (Rq : SmQ) (l : SmL) (st : List SmV) (S : SmS) (I : SmI) : Prop :=
  im_iload 1 l st S I fun l st S I =>
  im_i2l l st S I fun l st S I =>
  im_lc 0 l st S I fun l st S I =>
  im_aload 0 l st S I fun l st S I =>
  im_getR 1 3 l st S I fun l st S I =>
  im_getI 2 10 l st S I fun l st S I =>
  im_ic 1 l st S I fun l st S I =>
  im_isub l st S I fun l st S I =>
  im_i2l l st S I fun l st S I =>
  im_p_X0_isIn d l st S I fun l st S I =>
  im_zreturn Rq l st S I
theorem rv_X0_isTrain_0 {d : Nat} {Rq : SmQ} {l : SmL} {st : List SmV} {S : SmS} {I : SmI} (h : tr_X0_isTrain_0 d Rq l st S I) : SW mi_X0_isTrain 0 d Rq l st S I :=
  (show SmW mi_X0_isTrain 0 d Rq (tr_X0_isTrain_0 d Rq) from
  (xv_iload_n dX0_isTrain_0 rfl
  (xv_i2l dX0_isTrain_1
  (xv_lconst dX0_isTrain_2 rfl (inR64d rfl)
  (xv_aload_n dX0_isTrain_3 rfl
  (xv_getR (k := 3) dX0_isTrain_4 cl_1 tg_1 in_X0 (Nat.le_of_ble_eq_true rfl) rfl q1710
  (xv_getIN (k := 10) dX0_isTrain_7 cl_2 tg_2 in_X1 (Nat.le_of_ble_eq_true rfl) rfl q219
  (xv_iconst dX0_isTrain_10 rfl (inRd rfl)
  (xv_isub dX0_isTrain_11
  (xv_i2l dX0_isTrain_12
  (xv_p_X0_isIn dX0_isTrain_13 (lw_S q156 q157 q104 q158)
  (xv_zreturn dX0_isTrain_16 rfl)))))))))))) l st S I h
def tr_X0_isLess_0 (d : Nat) (Rq : SmQ) (l : SmL) (st : List SmV) (S : SmS) (I : SmI) : Prop :=
  im_iload 1 l st S I fun l st S I =>
  im_iload 2 l st S I fun l st S I =>
  im_cge l st S I (fun l st S I =>
  im_ic 0 l st S I fun l st S I =>
  im_zreturn Rq l st S I) (fun l st S I =>
  im_ic 1 l st S I fun l st S I =>
  im_zreturn Rq l st S I)
theorem rv_X0_isLess_0 {d : Nat} {Rq : SmQ} {l : SmL} {st : List SmV} {S : SmS} {I : SmI} (h : tr_X0_isLess_0 d Rq l st S I) : SW mi_X0_isLess 0 d Rq l st S I :=
  (show SmW mi_X0_isLess 0 d Rq (tr_X0_isLess_0 d Rq) from
  (xv_iload_n dX0_isLess_0 rfl
  (xv_iload_n dX0_isLess_1 rfl
  (xv_cge dX0_isLess_2 rfl
  (xv_iconst dX0_isLess_9 rfl (inRd rfl)
  (xv_zreturn dX0_isLess_10 rfl))
  (xv_iconst dX0_isLess_5 rfl (inRd rfl)
  (xv_goto dX0_isLess_6 rfl (xv_zreturn dX0_isLess_10 rfl))))))) l st S I h
