/-! regions of methods, printed by gen/regions.py -/
set_option maxRecDepth 100000
/- X2_forgets: cut at [0, 2] -/
abbrev mi_X2_forgets : SmM := (yX2_forgets, cX2_forgets, 2, (none : Option FieldType), [])
theorem ok_X2_forgets : callOk mi_X2_forgets 0 := ⟨rfl, rfl, Nat.le_of_ble_eq_true rfl, by decide, by decide, by decide +kernel⟩
theorem ent_X2_forgets (x : Option Nat) : entL (mL mi_X2_forgets) [vR x] = [some (vR x), none] := rfl
/- X2_isHolding: cut at [0, 5, 30, 79, 128] -/
abbrev mi_X2_isHolding : SmM := (yX2_isHolding, cX2_isHolding, 6, (some FieldType.boolean : Option FieldType), [])
theorem ok_X2_isHolding : callOk mi_X2_isHolding 2 := ⟨rfl, rfl, Nat.le_of_ble_eq_true rfl, by decide, by decide, by decide +kernel⟩
theorem ent_X2_isHolding (x : Option Nat) (x0 : Int) (x1 : Int) : entL (mL mi_X2_isHolding) [vR x, vI x0, vI x1] = [some (vR x), some (vI x0), some (vI x1), none, none, none] := rfl
/- X2_isHeld: cut at [0, 4, 25] -/
abbrev mi_X2_isHeld : SmM := (yX2_isHeld, cX2_isHeld, 4, (some FieldType.boolean : Option FieldType), [])
theorem ok_X2_isHeld : callOk mi_X2_isHeld 1 := ⟨rfl, rfl, Nat.le_of_ble_eq_true rfl, by decide, by decide, by decide +kernel⟩
theorem ent_X2_isHeld (x : Option Nat) (x0 : Int) : entL (mL mi_X2_isHeld) [vR x, vI x0] = [some (vR x), some (vI x0), none, none] := rfl
/- X2_moved: cut at [0, 46, 61, 84] -/
abbrev mi_X2_moved : SmM := (yX2_moved, cX2_moved, 7, (some FieldType.int : Option FieldType), [])
theorem ok_X2_moved : callOk mi_X2_moved 2 := ⟨rfl, rfl, Nat.le_of_ble_eq_true rfl, by decide, by decide, by decide +kernel⟩
theorem ent_X2_moved (x : Option Nat) (x0 : Int) (x1 : Int) : entL (mL mi_X2_moved) [vR x, vI x0, vI x1] = [some (vR x), some (vI x0), some (vI x1), none, none, none, none] := rfl
/- X2_isSafe: cut at [0, 42, 63, 78, 93] -/
abbrev mi_X2_isSafe : SmM := (yX2_isSafe, cX2_isSafe, 5, (some FieldType.boolean : Option FieldType), [])
theorem ok_X2_isSafe : callOk mi_X2_isSafe 1 := ⟨rfl, rfl, Nat.le_of_ble_eq_true rfl, by decide, by decide, by decide +kernel⟩
theorem ent_X2_isSafe (x : Option Nat) (x0 : Int) : entL (mL mi_X2_isSafe) [vR x, vI x0] = [some (vR x), some (vI x0), none, none, none] := rfl
/- X2_starts: cut at [0, 2] -/
abbrev mi_X2_starts : SmM := (yX2_starts, cX2_starts, 2, (none : Option FieldType), [])
theorem ok_X2_starts : callOk mi_X2_starts 0 := ⟨rfl, rfl, Nat.le_of_ble_eq_true rfl, by decide, by decide, by decide +kernel⟩
theorem ent_X2_starts (x : Option Nat) : entL (mL mi_X2_starts) [vR x] = [some (vR x), none] := rfl
/- X2_meets: cut at [0, 18, 35, 47] -/
abbrev mi_X2_meets : SmM := (yX2_meets, cX2_meets, 4, (none : Option FieldType), [])
theorem ok_X2_meets : callOk mi_X2_meets 1 := ⟨rfl, rfl, Nat.le_of_ble_eq_true rfl, by decide, by decide, by decide +kernel⟩
theorem ent_X2_meets (x : Option Nat) (x0 : Int) : entL (mL mi_X2_meets) [vR x, vI x0] = [some (vR x), some (vI x0), none, none] := rfl
/- X2_gone: cut at [0, 2, 24] -/
abbrev mi_X2_gone : SmM := (yX2_gone, cX2_gone, 4, (some FieldType.int : Option FieldType), [])
theorem ok_X2_gone : callOk mi_X2_gone 2 := ⟨rfl, rfl, Nat.le_of_ble_eq_true rfl, by decide, by decide, by decide +kernel⟩
theorem ent_X2_gone (x : Option Nat) (x0 : Int) (x1 : Int) : entL (mL mi_X2_gone) [vR x, vI x0, vI x1] = [some (vR x), some (vI x0), some (vI x1), none] := rfl
/- X0_inSection: cut at [0, 2] -/
abbrev mi_X0_inSection : SmM := (yX0_inSection, cX0_inSection, 3, (some FieldType.int : Option FieldType), [])
theorem ok_X0_inSection : callOk mi_X0_inSection 2 := ⟨rfl, rfl, Nat.le_of_ble_eq_true rfl, by decide, by decide, by decide +kernel⟩
theorem ent_X0_inSection (x0 : Option Nat) (x1 : Int) : entL (mL mi_X0_inSection) [vR x0, vI x1] = [some (vR x0), some (vI x1), none] := rfl
/- X0_movesLeft: cut at [0, 4] -/
abbrev mi_X0_movesLeft : SmM := (yX0_movesLeft, cX0_movesLeft, 3, (some FieldType.int : Option FieldType), [])
theorem ok_X0_movesLeft : callOk mi_X0_movesLeft 0 := ⟨rfl, rfl, Nat.le_of_ble_eq_true rfl, by decide, by decide, by decide +kernel⟩
theorem ent_X0_movesLeft (x : Option Nat) : entL (mL mi_X0_movesLeft) [vR x] = [some (vR x), none, none] := rfl
/- X0_thereAlready: cut at [0, 30] -/
abbrev mi_X0_thereAlready : SmM := (yX0_thereAlready, cX0_thereAlready, 5, (some FieldType.int : Option FieldType), [])
theorem ok_X0_thereAlready : callOk mi_X0_thereAlready 1 := ⟨rfl, rfl, Nat.le_of_ble_eq_true rfl, by decide, by decide, by decide +kernel⟩
theorem ent_X0_thereAlready (x : Option Nat) (x0 : Int) : entL (mL mi_X0_thereAlready) [vR x, vI x0] = [some (vR x), some (vI x0), none, none, none] := rfl
/- X0_sumOf: cut at [0, 4] -/
abbrev mi_X0_sumOf : SmM := (yX0_sumOf, cX0_sumOf, 4, (some FieldType.int : Option FieldType), [])
theorem ok_X0_sumOf : callOk mi_X0_sumOf 1 := ⟨rfl, rfl, Nat.le_of_ble_eq_true rfl, by decide, by decide, by decide +kernel⟩
theorem ent_X0_sumOf (x : Option Nat) (x0 : Int) : entL (mL mi_X0_sumOf) [vR x, vI x0] = [some (vR x), some (vI x0), none, none] := rfl
/- X0_lengths: cut at [0, 4] -/
abbrev mi_X0_lengths : SmM := (yX0_lengths, cX0_lengths, 3, (some FieldType.int : Option FieldType), [])
theorem ok_X0_lengths : callOk mi_X0_lengths 0 := ⟨rfl, rfl, Nat.le_of_ble_eq_true rfl, by decide, by decide, by decide +kernel⟩
theorem ent_X0_lengths (x : Option Nat) : entL (mL mi_X0_lengths) [vR x] = [some (vR x), none, none] := rfl
/- X0_goes: cut at [0] -/
abbrev mi_X0_goes : SmM := (yX0_goes, cX0_goes, 3, (none : Option FieldType), [])
theorem ok_X0_goes : callOk mi_X0_goes 2 := ⟨rfl, rfl, Nat.le_of_ble_eq_true rfl, by decide, by decide, by decide +kernel⟩
theorem ent_X0_goes (x0 : Option Nat) (x1 : Int) : entL (mL mi_X0_goes) [vR x0, vI x1] = [some (vR x0), some (vI x1), none] := rfl
def tr_X2_forgets_0 (d : Nat) (Rq : SmQ) (l : SmL) (st : List SmV) (S : SmS) (I : SmI) : Prop :=
  im_ic 0 l st S I fun l st S I =>
  im_istore 1 l st S I fun l st S I =>
  SW mi_X2_forgets 2 d Rq l st S I
theorem rv_X2_forgets_0 {d : Nat} {Rq : SmQ} {l : SmL} {st : List SmV} {S : SmS} {I : SmI} (h : tr_X2_forgets_0 d Rq l st S I) : SW mi_X2_forgets 0 d Rq l st S I :=
  (show SmW mi_X2_forgets 0 d Rq (tr_X2_forgets_0 d Rq) from
  (xv_iconst dX2_forgets_0 rfl (inRd rfl)
  (xv_istore_n dX2_forgets_1 rfl (Nat.le_of_ble_eq_true rfl)
  (fun _ _ _ _ h => h)))) l st S I h
def tr_X2_forgets_2 (d : Nat) (Rq : SmQ) (l : SmL) (st : List SmV) (S : SmS) (I : SmI) : Prop :=
  im_iload 1 l st S I fun l st S I =>
  im_ic 2401 l st S I fun l st S I =>
  im_cge l st S I (fun l st S I =>
  im_return Rq l st S I) (fun l st S I =>
  im_aload 0 l st S I fun l st S I =>
  im_getR 3 1 l st S I fun l st S I =>
  im_iload 1 l st S I fun l st S I =>
  im_ic 0 l st S I fun l st S I =>
  im_bast l st S I fun l st S I =>
  im_iinc 1 1 l st S I fun l st S I =>
  SW mi_X2_forgets 2 d Rq l st S I)
theorem rv_X2_forgets_2 {d : Nat} {Rq : SmQ} {l : SmL} {st : List SmV} {S : SmS} {I : SmI} (h : tr_X2_forgets_2 d Rq l st S I) : SW mi_X2_forgets 2 d Rq l st S I :=
  (show SmW mi_X2_forgets 2 d Rq (tr_X2_forgets_2 d Rq) from
  (xv_iload_n dX2_forgets_2 rfl
  (xv_sipush dX2_forgets_3 rfl (inRd rfl)
  (xv_cge dX2_forgets_6 rfl
  (xv_return dX2_forgets_22 rfl)
  (xv_aload_n dX2_forgets_9 rfl
  (xv_getR (k := 1) dX2_forgets_10 cl_3 tg_3 in_X2 (Nat.le_of_ble_eq_true rfl) rfl q483
  (xv_iload_n dX2_forgets_13 rfl
  (xv_iconst dX2_forgets_14 rfl (inRd rfl)
  (xv_bast dX2_forgets_15
  (xv_iinc dX2_forgets_16 (Nat.le_of_ble_eq_true rfl)
  (xv_goto dX2_forgets_19 rfl (fun _ _ _ _ h => h)))))))))))) l st S I h
def tr_X2_isHolding_0 (d : Nat) (Rq : SmQ) (l : SmL) (st : List SmV) (S : SmS) (I : SmI) : Prop :=
  im_ic 0 l st S I fun l st S I =>
  im_istore 3 l st S I fun l st S I =>
  im_ic 0 l st S I fun l st S I =>
  im_istore 4 l st S I fun l st S I =>
  SW mi_X2_isHolding 5 d Rq l st S I
theorem rv_X2_isHolding_0 {d : Nat} {Rq : SmQ} {l : SmL} {st : List SmV} {S : SmS} {I : SmI} (h : tr_X2_isHolding_0 d Rq l st S I) : SW mi_X2_isHolding 0 d Rq l st S I :=
  (show SmW mi_X2_isHolding 0 d Rq (tr_X2_isHolding_0 d Rq) from
  (xv_iconst dX2_isHolding_0 rfl (inRd rfl)
  (xv_istore_n dX2_isHolding_1 rfl (Nat.le_of_ble_eq_true rfl)
  (xv_iconst dX2_isHolding_2 rfl (inRd rfl)
  (xv_istore dX2_isHolding_3 (Nat.le_of_ble_eq_true rfl)
  (fun _ _ _ _ h => h)))))) l st S I h
def tr_X2_isHolding_5 (d : Nat) (Rq : SmQ) (l : SmL) (st : List SmV) (S : SmS) (I : SmI) : Prop :=
  im_iload 4 l st S I fun l st S I =>
  im_aload 0 l st S I fun l st S I =>
  im_getR 3 0 l st S I fun l st S I =>
  im_getI 2 10 l st S I fun l st S I =>
  im_cge l st S I (fun l st S I =>
  im_iload 3 l st S I fun l st S I =>
  im_aload 0 l st S I fun l st S I =>
  im_getR 3 0 l st S I fun l st S I =>
  im_getR 2 1 l st S I fun l st S I =>
  im_iload 2 l st S I fun l st S I =>
  im_ald 100 l st S I fun l st S I =>
  im_cgt l st S I (fun l st S I =>
  im_ic 0 l st S I fun l st S I =>
  im_istore 4 l st S I fun l st S I =>
  im_ic 0 l st S I fun l st S I =>
  im_istore 5 l st S I fun l st S I =>
  SW mi_X2_isHolding 128 d Rq l st S I) (fun l st S I =>
  im_ic 1 l st S I fun l st S I =>
  im_istore 4 l st S I fun l st S I =>
  im_ic 0 l st S I fun l st S I =>
  im_istore 5 l st S I fun l st S I =>
  SW mi_X2_isHolding 128 d Rq l st S I)) (fun l st S I =>
  im_iload 1 l st S I fun l st S I =>
  im_iload 4 l st S I fun l st S I =>
  im_p_X0_placeIn d l st S I fun l st S I =>
  im_iload 2 l st S I fun l st S I =>
  im_cne l st S I (fun l st S I =>
  im_iinc 4 1 l st S I fun l st S I =>
  SW mi_X2_isHolding 5 d Rq l st S I) (fun l st S I =>
  im_iload 3 l st S I fun l st S I =>
  im_istore 5 l st S I fun l st S I =>
  SW mi_X2_isHolding 30 d Rq l st S I))
theorem rv_X2_isHolding_5 {d : Nat} {Rq : SmQ} {l : SmL} {st : List SmV} {S : SmS} {I : SmI} (h : tr_X2_isHolding_5 d Rq l st S I) : SW mi_X2_isHolding 5 d Rq l st S I :=
  (show SmW mi_X2_isHolding 5 d Rq (tr_X2_isHolding_5 d Rq) from
  (xv_iload dX2_isHolding_5
  (xv_aload_n dX2_isHolding_7 rfl
  (xv_getR (k := 0) dX2_isHolding_8 cl_3 tg_3 in_X2 (Nat.le_of_ble_eq_true rfl) rfl q482
  (xv_getIN (k := 10) dX2_isHolding_11 cl_2 tg_2 in_X1 (Nat.le_of_ble_eq_true rfl) rfl q217
  (xv_cge dX2_isHolding_14 rfl
  (xv_iload_n dX2_isHolding_105 rfl
  (xv_aload_n dX2_isHolding_106 rfl
  (xv_getR (k := 0) dX2_isHolding_107 cl_3 tg_3 in_X2 (Nat.le_of_ble_eq_true rfl) rfl q482
  (xv_getRN (k := 1) dX2_isHolding_110 cl_2 tg_2 in_X1 (Nat.le_of_ble_eq_true rfl) rfl q192
  (xv_iload_n dX2_isHolding_113 rfl
  (xv_iald dX2_isHolding_114
  (xv_cgt dX2_isHolding_115 rfl
  (xv_iconst dX2_isHolding_122 rfl (inRd rfl)
  (xv_istore dX2_isHolding_123 (Nat.le_of_ble_eq_true rfl)
  (xv_iconst dX2_isHolding_125 rfl (inRd rfl)
  (xv_istore dX2_isHolding_126 (Nat.le_of_ble_eq_true rfl)
  (fun _ _ _ _ h => h)))))
  (xv_iconst dX2_isHolding_118 rfl (inRd rfl)
  (xv_goto dX2_isHolding_119 rfl (xv_istore dX2_isHolding_123 (Nat.le_of_ble_eq_true rfl)
  (xv_iconst dX2_isHolding_125 rfl (inRd rfl)
  (xv_istore dX2_isHolding_126 (Nat.le_of_ble_eq_true rfl)
  (fun _ _ _ _ h => h)))))))))))))
  (xv_iload_n dX2_isHolding_17 rfl
  (xv_iload dX2_isHolding_18
  (xv_pn_X0_placeIn dX2_isHolding_20 q508
  (xv_iload_n dX2_isHolding_23 rfl
  (xv_cne dX2_isHolding_24 rfl
  (xv_iinc dX2_isHolding_99 (Nat.le_of_ble_eq_true rfl)
  (xv_goto dX2_isHolding_102 rfl (fun _ _ _ _ h => h)))
  (xv_iload_n dX2_isHolding_27 rfl
  (xv_istore dX2_isHolding_28 (Nat.le_of_ble_eq_true rfl)
  (fun _ _ _ _ h => h)))))))))))))) l st S I h
def tr_X2_isHolding_30 (d : Nat) (Rq : SmQ) (l : SmL) (st : List SmV) (S : SmS) (I : SmI) : Prop :=
  im_iload 5 l st S I fun l st S I =>
  im_zle l st S I (fun l st S I =>
  SW mi_X2_isHolding 79 d Rq l st S I) (fun l st S I =>
  im_aload 0 l st S I fun l st S I =>
  im_getR 3 3 l st S I fun l st S I =>
  im_iload 5 l st S I fun l st S I =>
  im_ic 1 l st S I fun l st S I =>
  im_isub l st S I fun l st S I =>
  im_ald 100 l st S I fun l st S I =>
  im_aload 0 l st S I fun l st S I =>
  im_getR 3 0 l st S I fun l st S I =>
  im_getR 2 6 l st S I fun l st S I =>
  im_iload 4 l st S I fun l st S I =>
  im_ald 100 l st S I fun l st S I =>
  im_cge l st S I (fun l st S I =>
  SW mi_X2_isHolding 79 d Rq l st S I) (fun l st S I =>
  im_aload 0 l st S I fun l st S I =>
  im_getR 3 3 l st S I fun l st S I =>
  im_iload 5 l st S I fun l st S I =>
  im_aload 0 l st S I fun l st S I =>
  im_getR 3 3 l st S I fun l st S I =>
  im_iload 5 l st S I fun l st S I =>
  im_ic 1 l st S I fun l st S I =>
  im_isub l st S I fun l st S I =>
  im_ald 100 l st S I fun l st S I =>
  im_iast l st S I fun l st S I =>
  im_iinc 5 (-1) l st S I fun l st S I =>
  SW mi_X2_isHolding 30 d Rq l st S I))
theorem rv_X2_isHolding_30 {d : Nat} {Rq : SmQ} {l : SmL} {st : List SmV} {S : SmS} {I : SmI} (h : tr_X2_isHolding_30 d Rq l st S I) : SW mi_X2_isHolding 30 d Rq l st S I :=
  (show SmW mi_X2_isHolding 30 d Rq (tr_X2_isHolding_30 d Rq) from
  (xv_iload dX2_isHolding_30
  (xv_zle dX2_isHolding_32 rfl
  (fun _ _ _ _ h => h)
  (xv_aload_n dX2_isHolding_35 rfl
  (xv_getR (k := 3) dX2_isHolding_36 cl_3 tg_3 in_X2 (Nat.le_of_ble_eq_true rfl) rfl q486
  (xv_iload dX2_isHolding_39
  (xv_iconst dX2_isHolding_41 rfl (inRd rfl)
  (xv_isub dX2_isHolding_42
  (xv_iald dX2_isHolding_43
  (xv_aload_n dX2_isHolding_44 rfl
  (xv_getR (k := 0) dX2_isHolding_45 cl_3 tg_3 in_X2 (Nat.le_of_ble_eq_true rfl) rfl q482
  (xv_getRN (k := 6) dX2_isHolding_48 cl_2 tg_2 in_X1 (Nat.le_of_ble_eq_true rfl) rfl q208
  (xv_iload dX2_isHolding_51
  (xv_iald dX2_isHolding_53
  (xv_cge dX2_isHolding_54 rfl
  (fun _ _ _ _ h => h)
  (xv_aload_n dX2_isHolding_57 rfl
  (xv_getR (k := 3) dX2_isHolding_58 cl_3 tg_3 in_X2 (Nat.le_of_ble_eq_true rfl) rfl q486
  (xv_iload dX2_isHolding_61
  (xv_aload_n dX2_isHolding_63 rfl
  (xv_getR (k := 3) dX2_isHolding_64 cl_3 tg_3 in_X2 (Nat.le_of_ble_eq_true rfl) rfl q486
  (xv_iload dX2_isHolding_67
  (xv_iconst dX2_isHolding_69 rfl (inRd rfl)
  (xv_isub dX2_isHolding_70
  (xv_iald dX2_isHolding_71
  (xv_iast dX2_isHolding_72
  (xv_iinc dX2_isHolding_73 (Nat.le_of_ble_eq_true rfl)
  (xv_goto dX2_isHolding_76 rfl (fun _ _ _ _ h => h)))))))))))))))))))))))))))) l st S I h
def tr_X2_isHolding_79 (d : Nat) (Rq : SmQ) (l : SmL) (st : List SmV) (S : SmS) (I : SmI) : Prop :=
  im_aload 0 l st S I fun l st S I =>
  im_getR 3 3 l st S I fun l st S I =>
  im_iload 5 l st S I fun l st S I =>
  im_aload 0 l st S I fun l st S I =>
  im_getR 3 0 l st S I fun l st S I =>
  im_getR 2 6 l st S I fun l st S I =>
  im_iload 4 l st S I fun l st S I =>
  im_ald 100 l st S I fun l st S I =>
  im_iast l st S I fun l st S I =>
  im_iinc 3 1 l st S I fun l st S I =>
  im_iinc 4 1 l st S I fun l st S I =>
  SW mi_X2_isHolding 5 d Rq l st S I
theorem rv_X2_isHolding_79 {d : Nat} {Rq : SmQ} {l : SmL} {st : List SmV} {S : SmS} {I : SmI} (h : tr_X2_isHolding_79 d Rq l st S I) : SW mi_X2_isHolding 79 d Rq l st S I :=
  (show SmW mi_X2_isHolding 79 d Rq (tr_X2_isHolding_79 d Rq) from
  (xv_aload_n dX2_isHolding_79 rfl
  (xv_getR (k := 3) dX2_isHolding_80 cl_3 tg_3 in_X2 (Nat.le_of_ble_eq_true rfl) rfl q486
  (xv_iload dX2_isHolding_83
  (xv_aload_n dX2_isHolding_85 rfl
  (xv_getR (k := 0) dX2_isHolding_86 cl_3 tg_3 in_X2 (Nat.le_of_ble_eq_true rfl) rfl q482
  (xv_getRN (k := 6) dX2_isHolding_89 cl_2 tg_2 in_X1 (Nat.le_of_ble_eq_true rfl) rfl q208
  (xv_iload dX2_isHolding_92
  (xv_iald dX2_isHolding_94
  (xv_iast dX2_isHolding_95
  (xv_iinc dX2_isHolding_96 (Nat.le_of_ble_eq_true rfl)
  (xv_iinc dX2_isHolding_99 (Nat.le_of_ble_eq_true rfl)
  (xv_goto dX2_isHolding_102 rfl (fun _ _ _ _ h => h)))))))))))))) l st S I h
def tr_X2_isHolding_128 (d : Nat) (Rq : SmQ) (l : SmL) (st : List SmV) (S : SmS) (I : SmI) : Prop :=
  im_iload 5 l st S I fun l st S I =>
  im_iload 3 l st S I fun l st S I =>
  im_cge l st S I (fun l st S I =>
  im_iload 4 l st S I fun l st S I =>
  im_zreturn Rq l st S I) (fun l st S I =>
  im_iload 4 l st S I fun l st S I =>
  im_zeq l st S I (fun l st S I =>
  im_iload 4 l st S I fun l st S I =>
  im_zreturn Rq l st S I) (fun l st S I =>
  im_aload 0 l st S I fun l st S I =>
  im_getR 3 3 l st S I fun l st S I =>
  im_iload 5 l st S I fun l st S I =>
  im_ald 100 l st S I fun l st S I =>
  im_aload 0 l st S I fun l st S I =>
  im_getR 3 0 l st S I fun l st S I =>
  im_getR 2 0 l st S I fun l st S I =>
  im_iload 2 l st S I fun l st S I =>
  im_aald 104 l st S I fun l st S I =>
  im_iload 5 l st S I fun l st S I =>
  im_ald 100 l st S I fun l st S I =>
  im_cgt l st S I (fun l st S I =>
  im_ic 0 l st S I fun l st S I =>
  im_istore 4 l st S I fun l st S I =>
  im_iinc 5 1 l st S I fun l st S I =>
  SW mi_X2_isHolding 128 d Rq l st S I) (fun l st S I =>
  im_ic 1 l st S I fun l st S I =>
  im_istore 4 l st S I fun l st S I =>
  im_iinc 5 1 l st S I fun l st S I =>
  SW mi_X2_isHolding 128 d Rq l st S I)))
theorem rv_X2_isHolding_128 {d : Nat} {Rq : SmQ} {l : SmL} {st : List SmV} {S : SmS} {I : SmI} (h : tr_X2_isHolding_128 d Rq l st S I) : SW mi_X2_isHolding 128 d Rq l st S I :=
  (show SmW mi_X2_isHolding 128 d Rq (tr_X2_isHolding_128 d Rq) from
  (xv_iload dX2_isHolding_128
  (xv_iload_n dX2_isHolding_130 rfl
  (xv_cge dX2_isHolding_131 rfl
  (xv_iload dX2_isHolding_174
  (xv_zreturn dX2_isHolding_176 rfl))
  (xv_iload dX2_isHolding_134
  (xv_zeq dX2_isHolding_136 rfl
  (xv_iload dX2_isHolding_174
  (xv_zreturn dX2_isHolding_176 rfl))
  (xv_aload_n dX2_isHolding_139 rfl
  (xv_getR (k := 3) dX2_isHolding_140 cl_3 tg_3 in_X2 (Nat.le_of_ble_eq_true rfl) rfl q486
  (xv_iload dX2_isHolding_143
  (xv_iald dX2_isHolding_145
  (xv_aload_n dX2_isHolding_146 rfl
  (xv_getR (k := 0) dX2_isHolding_147 cl_3 tg_3 in_X2 (Nat.le_of_ble_eq_true rfl) rfl q482
  (xv_getRN (k := 0) dX2_isHolding_150 cl_2 tg_2 in_X1 (Nat.le_of_ble_eq_true rfl) rfl q188
  (xv_iload_n dX2_isHolding_153 rfl
  (xv_aald dX2_isHolding_154 ⟨(Nat.le_of_ble_eq_true rfl), (Nat.le_of_ble_eq_true rfl)⟩
  (xv_iload dX2_isHolding_155
  (xv_iald dX2_isHolding_157
  (xv_cgt dX2_isHolding_158 rfl
  (xv_iconst dX2_isHolding_165 rfl (inRd rfl)
  (xv_istore dX2_isHolding_166 (Nat.le_of_ble_eq_true rfl)
  (xv_iinc dX2_isHolding_168 (Nat.le_of_ble_eq_true rfl)
  (xv_goto dX2_isHolding_171 rfl (fun _ _ _ _ h => h)))))
  (xv_iconst dX2_isHolding_161 rfl (inRd rfl)
  (xv_goto dX2_isHolding_162 rfl (xv_istore dX2_isHolding_166 (Nat.le_of_ble_eq_true rfl)
  (xv_iinc dX2_isHolding_168 (Nat.le_of_ble_eq_true rfl)
  (xv_goto dX2_isHolding_171 rfl (fun _ _ _ _ h => h)))))))))))))))))))))))) l st S I h
def tr_X2_isHeld_0 (d : Nat) (Rq : SmQ) (l : SmL) (st : List SmV) (S : SmS) (I : SmI) : Prop :=
  im_ic 1 l st S I fun l st S I =>
  im_istore 2 l st S I fun l st S I =>
  im_ic 0 l st S I fun l st S I =>
  im_istore 3 l st S I fun l st S I =>
  SW mi_X2_isHeld 4 d Rq l st S I
theorem rv_X2_isHeld_0 {d : Nat} {Rq : SmQ} {l : SmL} {st : List SmV} {S : SmS} {I : SmI} (h : tr_X2_isHeld_0 d Rq l st S I) : SW mi_X2_isHeld 0 d Rq l st S I :=
  (show SmW mi_X2_isHeld 0 d Rq (tr_X2_isHeld_0 d Rq) from
  (xv_iconst dX2_isHeld_0 rfl (inRd rfl)
  (xv_istore_n dX2_isHeld_1 rfl (Nat.le_of_ble_eq_true rfl)
  (xv_iconst dX2_isHeld_2 rfl (inRd rfl)
  (xv_istore_n dX2_isHeld_3 rfl (Nat.le_of_ble_eq_true rfl)
  (fun _ _ _ _ h => h)))))) l st S I h
def tr_X2_isHeld_4 (d : Nat) (Rq : SmQ) (l : SmL) (st : List SmV) (S : SmS) (I : SmI) : Prop :=
  im_iload 3 l st S I fun l st S I =>
  im_aload 0 l st S I fun l st S I =>
  im_getR 3 0 l st S I fun l st S I =>
  im_getI 2 3 l st S I fun l st S I =>
  im_cge l st S I (fun l st S I =>
  im_iload 2 l st S I fun l st S I =>
  im_zreturn Rq l st S I) (fun l st S I =>
  im_iload 2 l st S I fun l st S I =>
  im_zeq l st S I (fun l st S I =>
  im_ic 0 l st S I fun l st S I =>
  im_istore 2 l st S I fun l st S I =>
  im_iinc 3 1 l st S I fun l st S I =>
  SW mi_X2_isHeld 4 d Rq l st S I) (fun l st S I =>
  im_aload 0 l st S I fun l st S I =>
  im_iload 1 l st S I fun l st S I =>
  im_iload 3 l st S I fun l st S I =>
  im_callV 2 3 mi_X2_isHolding d (retK mi_X2_isHeld 22 25 d Rq l) st S I))
theorem rv_X2_isHeld_4 {d : Nat} {Rq : SmQ} {l : SmL} {st : List SmV} {S : SmS} {I : SmI} (h : tr_X2_isHeld_4 d Rq l st S I) : SW mi_X2_isHeld 4 d Rq l st S I :=
  (show SmW mi_X2_isHeld 4 d Rq (tr_X2_isHeld_4 d Rq) from
  (xv_iload_n dX2_isHeld_4 rfl
  (xv_aload_n dX2_isHeld_5 rfl
  (xv_getR (k := 0) dX2_isHeld_6 cl_3 tg_3 in_X2 (Nat.le_of_ble_eq_true rfl) rfl q482
  (xv_getIN (k := 3) dX2_isHeld_9 cl_2 tg_2 in_X1 (Nat.le_of_ble_eq_true rfl) rfl q199
  (xv_cge dX2_isHeld_12 rfl
  (xv_iload_n dX2_isHeld_40 rfl
  (xv_zreturn dX2_isHeld_41 rfl))
  (xv_iload_n dX2_isHeld_15 rfl
  (xv_zeq dX2_isHeld_16 rfl
  (xv_iconst dX2_isHeld_32 rfl (inRd rfl)
  (xv_istore_n dX2_isHeld_33 rfl (Nat.le_of_ble_eq_true rfl)
  (xv_iinc dX2_isHeld_34 (Nat.le_of_ble_eq_true rfl)
  (xv_goto dX2_isHeld_37 rfl (fun _ _ _ _ h => h)))))
  (xv_aload_n dX2_isHeld_19 rfl
  (xv_iload_n dX2_isHeld_20 rfl
  (xv_iload_n dX2_isHeld_21 rfl
  (xv_callV dX2_isHeld_22 cl_3 tg_3 ok_X2_isHolding rfl (lw_V q504 q505 q506 q106 q507))))))))))))) l st S I h
def tr_X2_isHeld_25 (d : Nat) (Rq : SmQ) (l : SmL) (st : List SmV) (S : SmS) (I : SmI) : Prop :=
  im_zeq l st S I (fun l st S I =>
  im_ic 0 l st S I fun l st S I =>
  im_istore 2 l st S I fun l st S I =>
  im_iinc 3 1 l st S I fun l st S I =>
  SW mi_X2_isHeld 4 d Rq l st S I) (fun l st S I =>
  im_ic 1 l st S I fun l st S I =>
  im_istore 2 l st S I fun l st S I =>
  im_iinc 3 1 l st S I fun l st S I =>
  SW mi_X2_isHeld 4 d Rq l st S I)
theorem rv_X2_isHeld_25 {d : Nat} {Rq : SmQ} {l : SmL} {st : List SmV} {S : SmS} {I : SmI} (h : tr_X2_isHeld_25 d Rq l st S I) : SW mi_X2_isHeld 25 d Rq l st S I :=
  (show SmW mi_X2_isHeld 25 d Rq (tr_X2_isHeld_25 d Rq) from
  (xv_zeq dX2_isHeld_25 rfl
  (xv_iconst dX2_isHeld_32 rfl (inRd rfl)
  (xv_istore_n dX2_isHeld_33 rfl (Nat.le_of_ble_eq_true rfl)
  (xv_iinc dX2_isHeld_34 (Nat.le_of_ble_eq_true rfl)
  (xv_goto dX2_isHeld_37 rfl (fun _ _ _ _ h => h)))))
  (xv_iconst dX2_isHeld_28 rfl (inRd rfl)
  (xv_goto dX2_isHeld_29 rfl (xv_istore_n dX2_isHeld_33 rfl (Nat.le_of_ble_eq_true rfl)
  (xv_iinc dX2_isHeld_34 (Nat.le_of_ble_eq_true rfl)
  (xv_goto dX2_isHeld_37 rfl (fun _ _ _ _ h => h)))))))) l st S I h
def tr_X2_moved_0 (d : Nat) (Rq : SmQ) (l : SmL) (st : List SmV) (S : SmS) (I : SmI) : Prop :=
  im_iload 1 l st S I fun l st S I =>
  im_iload 2 l st S I fun l st S I =>
  im_p_X0_placeIn d l st S I fun l st S I =>
  im_istore 3 l st S I fun l st S I =>
  im_iload 3 l st S I fun l st S I =>
  im_ic 6 l st S I fun l st S I =>
  im_cne l st S I (fun l st S I =>
  im_iload 3 l st S I fun l st S I =>
  im_aload 0 l st S I fun l st S I =>
  im_getR 3 0 l st S I fun l st S I =>
  im_iload 2 l st S I fun l st S I =>
  im_p_X1_way d l st S I fun l st S I =>
  im_iadd l st S I fun l st S I =>
  im_istore 4 l st S I fun l st S I =>
  im_iload 4 l st S I fun l st S I =>
  im_aload 0 l st S I fun l st S I =>
  im_getR 3 0 l st S I fun l st S I =>
  im_getR 2 5 l st S I fun l st S I =>
  im_iload 2 l st S I fun l st S I =>
  im_ald 100 l st S I fun l st S I =>
  im_cne l st S I (fun l st S I =>
  im_ic 0 l st S I fun l st S I =>
  SW mi_X2_moved 46 d Rq l st S I) (fun l st S I =>
  im_ic 1 l st S I fun l st S I =>
  SW mi_X2_moved 46 d Rq l st S I)) (fun l st S I =>
  im_ic (-4) l st S I fun l st S I =>
  im_ireturn Rq l st S I)
theorem rv_X2_moved_0 {d : Nat} {Rq : SmQ} {l : SmL} {st : List SmV} {S : SmS} {I : SmI} (h : tr_X2_moved_0 d Rq l st S I) : SW mi_X2_moved 0 d Rq l st S I :=
  (show SmW mi_X2_moved 0 d Rq (tr_X2_moved_0 d Rq) from
  (xv_iload_n dX2_moved_0 rfl
  (xv_iload_n dX2_moved_1 rfl
  (xv_pn_X0_placeIn dX2_moved_2 q508
  (xv_istore_n dX2_moved_5 rfl (Nat.le_of_ble_eq_true rfl)
  (xv_iload_n dX2_moved_6 rfl
  (xv_bipush dX2_moved_7 rfl (inRd rfl)
  (xv_cne dX2_moved_9 rfl
  (xv_iload_n dX2_moved_15 rfl
  (xv_aload_n dX2_moved_16 rfl
  (xv_getR (k := 0) dX2_moved_17 cl_3 tg_3 in_X2 (Nat.le_of_ble_eq_true rfl) rfl q482
  (xv_iload_n dX2_moved_20 rfl
  (xv_p_X1_way dX2_moved_21 (lw_V q523 q524 q525 q105 q526)
  (xv_iadd dX2_moved_24
  (xv_istore dX2_moved_25 (Nat.le_of_ble_eq_true rfl)
  (xv_iload dX2_moved_27
  (xv_aload_n dX2_moved_29 rfl
  (xv_getR (k := 0) dX2_moved_30 cl_3 tg_3 in_X2 (Nat.le_of_ble_eq_true rfl) rfl q482
  (xv_getRN (k := 5) dX2_moved_33 cl_2 tg_2 in_X1 (Nat.le_of_ble_eq_true rfl) rfl q205
  (xv_iload_n dX2_moved_36 rfl
  (xv_iald dX2_moved_37
  (xv_cne dX2_moved_38 rfl
  (xv_iconst dX2_moved_45 rfl (inRd rfl)
  (fun _ _ _ _ h => h))
  (xv_iconst dX2_moved_41 rfl (inRd rfl)
  (xv_goto dX2_moved_42 rfl (fun _ _ _ _ h => h)))))))))))))))))
  (xv_bipush dX2_moved_12 rfl (inRd rfl)
  (xv_ireturn dX2_moved_14 rfl)))))))))) l st S I h
def tr_X2_moved_46 (d : Nat) (Rq : SmQ) (l : SmL) (st : List SmV) (S : SmS) (I : SmI) : Prop :=
  im_istore 5 l st S I fun l st S I =>
  im_iload 1 l st S I fun l st S I =>
  im_iload 5 l st S I fun l st S I =>
  im_zeq l st S I (fun l st S I =>
  im_iload 4 l st S I fun l st S I =>
  SW mi_X2_moved 61 d Rq l st S I) (fun l st S I =>
  im_ic 6 l st S I fun l st S I =>
  SW mi_X2_moved 61 d Rq l st S I)
theorem rv_X2_moved_46 {d : Nat} {Rq : SmQ} {l : SmL} {st : List SmV} {S : SmS} {I : SmI} (h : tr_X2_moved_46 d Rq l st S I) : SW mi_X2_moved 46 d Rq l st S I :=
  (show SmW mi_X2_moved 46 d Rq (tr_X2_moved_46 d Rq) from
  (xv_istore dX2_moved_46 (Nat.le_of_ble_eq_true rfl)
  (xv_iload_n dX2_moved_48 rfl
  (xv_iload dX2_moved_49
  (xv_zeq dX2_moved_51 rfl
  (xv_iload dX2_moved_59
  (fun _ _ _ _ h => h))
  (xv_bipush dX2_moved_54 rfl (inRd rfl)
  (xv_goto dX2_moved_56 rfl (fun _ _ _ _ h => h)))))))) l st S I h
def tr_X2_moved_61 (d : Nat) (Rq : SmQ) (l : SmL) (st : List SmV) (S : SmS) (I : SmI) : Prop :=
  im_iload 3 l st S I fun l st S I =>
  im_isub l st S I fun l st S I =>
  im_iload 2 l st S I fun l st S I =>
  im_p_X0_powerOf d l st S I fun l st S I =>
  im_imul l st S I fun l st S I =>
  im_iadd l st S I fun l st S I =>
  im_istore 6 l st S I fun l st S I =>
  im_iload 5 l st S I fun l st S I =>
  im_zne l st S I (fun l st S I =>
  im_iload 6 l st S I fun l st S I =>
  im_ireturn Rq l st S I) (fun l st S I =>
  im_aload 0 l st S I fun l st S I =>
  im_iload 6 l st S I fun l st S I =>
  im_iload 4 l st S I fun l st S I =>
  im_callV 2 3 mi_X2_isHolding d (retK mi_X2_moved 81 84 d Rq l) st S I)
theorem rv_X2_moved_61 {d : Nat} {Rq : SmQ} {l : SmL} {st : List SmV} {S : SmS} {I : SmI} (h : tr_X2_moved_61 d Rq l st S I) : SW mi_X2_moved 61 d Rq l st S I :=
  (show SmW mi_X2_moved 61 d Rq (tr_X2_moved_61 d Rq) from
  (xv_iload_n dX2_moved_61 rfl
  (xv_isub dX2_moved_62
  (xv_iload_n dX2_moved_63 rfl
  (xv_pn_X0_powerOf dX2_moved_64 q527
  (xv_imul dX2_moved_67
  (xv_iadd dX2_moved_68
  (xv_istore dX2_moved_69 (Nat.le_of_ble_eq_true rfl)
  (xv_iload dX2_moved_71
  (xv_zne dX2_moved_73 rfl
  (xv_iload dX2_moved_87
  (xv_goto dX2_moved_89 rfl (xv_ireturn dX2_moved_94 rfl)))
  (xv_aload_n dX2_moved_76 rfl
  (xv_iload dX2_moved_77
  (xv_iload dX2_moved_79
  (xv_callV dX2_moved_81 cl_3 tg_3 ok_X2_isHolding rfl (lw_V q504 q505 q506 q106 q507))))))))))))))) l st S I h
def tr_X2_moved_84 (d : Nat) (Rq : SmQ) (l : SmL) (st : List SmV) (S : SmS) (I : SmI) : Prop :=
  im_zeq l st S I (fun l st S I =>
  im_ic (-4) l st S I fun l st S I =>
  im_ireturn Rq l st S I) (fun l st S I =>
  im_iload 6 l st S I fun l st S I =>
  im_ireturn Rq l st S I)
theorem rv_X2_moved_84 {d : Nat} {Rq : SmQ} {l : SmL} {st : List SmV} {S : SmS} {I : SmI} (h : tr_X2_moved_84 d Rq l st S I) : SW mi_X2_moved 84 d Rq l st S I :=
  (show SmW mi_X2_moved 84 d Rq (tr_X2_moved_84 d Rq) from
  (xv_zeq dX2_moved_84 rfl
  (xv_bipush dX2_moved_92 rfl (inRd rfl)
  (xv_ireturn dX2_moved_94 rfl))
  (xv_iload dX2_moved_87
  (xv_goto dX2_moved_89 rfl (xv_ireturn dX2_moved_94 rfl))))) l st S I h
def tr_X2_isSafe_0 (d : Nat) (Rq : SmQ) (l : SmL) (st : List SmV) (S : SmS) (I : SmI) : Prop :=
  im_iload 1 l st S I fun l st S I =>
  im_aload 0 l st S I fun l st S I =>
  im_getR 3 0 l st S I fun l st S I =>
  im_p_X1_all d l st S I fun l st S I =>
  im_cne l st S I (fun l st S I =>
  im_aload 0 l st S I fun l st S I =>
  im_getR 3 1 l st S I fun l st S I =>
  im_iload 1 l st S I fun l st S I =>
  im_ald 101 l st S I fun l st S I =>
  im_zeq l st S I (fun l st S I =>
  im_ic 0 l st S I fun l st S I =>
  im_istore 2 l st S I fun l st S I =>
  im_ic 0 l st S I fun l st S I =>
  im_istore 3 l st S I fun l st S I =>
  SW mi_X2_isSafe 42 d Rq l st S I) (fun l st S I =>
  im_aload 0 l st S I fun l st S I =>
  im_getR 3 1 l st S I fun l st S I =>
  im_iload 1 l st S I fun l st S I =>
  im_ald 101 l st S I fun l st S I =>
  im_ic 1 l st S I fun l st S I =>
  im_cne l st S I (fun l st S I =>
  im_ic 0 l st S I fun l st S I =>
  im_zreturn Rq l st S I) (fun l st S I =>
  im_ic 1 l st S I fun l st S I =>
  im_zreturn Rq l st S I))) (fun l st S I =>
  im_ic 1 l st S I fun l st S I =>
  im_zreturn Rq l st S I)
theorem rv_X2_isSafe_0 {d : Nat} {Rq : SmQ} {l : SmL} {st : List SmV} {S : SmS} {I : SmI} (h : tr_X2_isSafe_0 d Rq l st S I) : SW mi_X2_isSafe 0 d Rq l st S I :=
  (show SmW mi_X2_isSafe 0 d Rq (tr_X2_isSafe_0 d Rq) from
  (xv_iload_n dX2_isSafe_0 rfl
  (xv_aload_n dX2_isSafe_1 rfl
  (xv_getR (k := 0) dX2_isSafe_2 cl_3 tg_3 in_X2 (Nat.le_of_ble_eq_true rfl) rfl q482
  (xv_p_X1_all dX2_isSafe_5 (lw_V q515 q516 q517 q105 q518)
  (xv_cne dX2_isSafe_8 rfl
  (xv_aload_n dX2_isSafe_13 rfl
  (xv_getR (k := 1) dX2_isSafe_14 cl_3 tg_3 in_X2 (Nat.le_of_ble_eq_true rfl) rfl q483
  (xv_iload_n dX2_isSafe_17 rfl
  (xv_bald dX2_isSafe_18
  (xv_zeq dX2_isSafe_19 rfl
  (xv_iconst dX2_isSafe_38 rfl (inRd rfl)
  (xv_istore_n dX2_isSafe_39 rfl (Nat.le_of_ble_eq_true rfl)
  (xv_iconst dX2_isSafe_40 rfl (inRd rfl)
  (xv_istore_n dX2_isSafe_41 rfl (Nat.le_of_ble_eq_true rfl)
  (fun _ _ _ _ h => h)))))
  (xv_aload_n dX2_isSafe_22 rfl
  (xv_getR (k := 1) dX2_isSafe_23 cl_3 tg_3 in_X2 (Nat.le_of_ble_eq_true rfl) rfl q483
  (xv_iload_n dX2_isSafe_26 rfl
  (xv_bald dX2_isSafe_27
  (xv_iconst dX2_isSafe_28 rfl (inRd rfl)
  (xv_cne dX2_isSafe_29 rfl
  (xv_iconst dX2_isSafe_36 rfl (inRd rfl)
  (xv_zreturn dX2_isSafe_37 rfl))
  (xv_iconst dX2_isSafe_32 rfl (inRd rfl)
  (xv_goto dX2_isSafe_33 rfl (xv_zreturn dX2_isSafe_37 rfl))))))))))))))
  (xv_iconst dX2_isSafe_11 rfl (inRd rfl)
  (xv_zreturn dX2_isSafe_12 rfl)))))))) l st S I h
def tr_X2_isSafe_42 (d : Nat) (Rq : SmQ) (l : SmL) (st : List SmV) (S : SmS) (I : SmI) : Prop :=
  im_iload 3 l st S I fun l st S I =>
  im_aload 0 l st S I fun l st S I =>
  im_getR 3 0 l st S I fun l st S I =>
  im_getI 2 10 l st S I fun l st S I =>
  im_cge l st S I (fun l st S I =>
  SW mi_X2_isSafe 93 d Rq l st S I) (fun l st S I =>
  im_iload 2 l st S I fun l st S I =>
  im_zne l st S I (fun l st S I =>
  SW mi_X2_isSafe 93 d Rq l st S I) (fun l st S I =>
  im_aload 0 l st S I fun l st S I =>
  im_iload 1 l st S I fun l st S I =>
  im_iload 3 l st S I fun l st S I =>
  im_callV 2 3 mi_X2_moved d (retK mi_X2_isSafe 60 63 d Rq l) st S I))
theorem rv_X2_isSafe_42 {d : Nat} {Rq : SmQ} {l : SmL} {st : List SmV} {S : SmS} {I : SmI} (h : tr_X2_isSafe_42 d Rq l st S I) : SW mi_X2_isSafe 42 d Rq l st S I :=
  (show SmW mi_X2_isSafe 42 d Rq (tr_X2_isSafe_42 d Rq) from
  (xv_iload_n dX2_isSafe_42 rfl
  (xv_aload_n dX2_isSafe_43 rfl
  (xv_getR (k := 0) dX2_isSafe_44 cl_3 tg_3 in_X2 (Nat.le_of_ble_eq_true rfl) rfl q482
  (xv_getIN (k := 10) dX2_isSafe_47 cl_2 tg_2 in_X1 (Nat.le_of_ble_eq_true rfl) rfl q217
  (xv_cge dX2_isSafe_50 rfl
  (fun _ _ _ _ h => h)
  (xv_iload_n dX2_isSafe_53 rfl
  (xv_zne dX2_isSafe_54 rfl
  (fun _ _ _ _ h => h)
  (xv_aload_n dX2_isSafe_57 rfl
  (xv_iload_n dX2_isSafe_58 rfl
  (xv_iload_n dX2_isSafe_59 rfl
  (xv_callV dX2_isSafe_60 cl_3 tg_3 ok_X2_moved rfl (lw_V q519 q520 q521 q106 q522))))))))))))) l st S I h
def tr_X2_isSafe_63 (d : Nat) (Rq : SmQ) (l : SmL) (st : List SmV) (S : SmS) (I : SmI) : Prop :=
  im_istore 4 l st S I fun l st S I =>
  im_iload 4 l st S I fun l st S I =>
  im_ic (-4) l st S I fun l st S I =>
  im_ceq l st S I (fun l st S I =>
  im_ic 0 l st S I fun l st S I =>
  im_istore 2 l st S I fun l st S I =>
  im_iinc 3 1 l st S I fun l st S I =>
  SW mi_X2_isSafe 42 d Rq l st S I) (fun l st S I =>
  im_aload 0 l st S I fun l st S I =>
  im_iload 4 l st S I fun l st S I =>
  im_callV 1 3 mi_X2_isSafe d (retK mi_X2_isSafe 75 78 d Rq l) st S I)
theorem rv_X2_isSafe_63 {d : Nat} {Rq : SmQ} {l : SmL} {st : List SmV} {S : SmS} {I : SmI} (h : tr_X2_isSafe_63 d Rq l st S I) : SW mi_X2_isSafe 63 d Rq l st S I :=
  (show SmW mi_X2_isSafe 63 d Rq (tr_X2_isSafe_63 d Rq) from
  (xv_istore dX2_isSafe_63 (Nat.le_of_ble_eq_true rfl)
  (xv_iload dX2_isSafe_65
  (xv_bipush dX2_isSafe_67 rfl (inRd rfl)
  (xv_ceq dX2_isSafe_69 rfl
  (xv_iconst dX2_isSafe_85 rfl (inRd rfl)
  (xv_istore_n dX2_isSafe_86 rfl (Nat.le_of_ble_eq_true rfl)
  (xv_iinc dX2_isSafe_87 (Nat.le_of_ble_eq_true rfl)
  (xv_goto dX2_isSafe_90 rfl (fun _ _ _ _ h => h)))))
  (xv_aload_n dX2_isSafe_72 rfl
  (xv_iload dX2_isSafe_73
  (xv_callV dX2_isSafe_75 cl_3 tg_3 ok_X2_isSafe rfl (lw_V q530 q512 q513 q106 q514))))))))) l st S I h
def tr_X2_isSafe_78 (d : Nat) (Rq : SmQ) (l : SmL) (st : List SmV) (S : SmS) (I : SmI) : Prop :=
  im_zeq l st S I (fun l st S I =>
  im_ic 0 l st S I fun l st S I =>
  im_istore 2 l st S I fun l st S I =>
  im_iinc 3 1 l st S I fun l st S I =>
  SW mi_X2_isSafe 42 d Rq l st S I) (fun l st S I =>
  im_ic 1 l st S I fun l st S I =>
  im_istore 2 l st S I fun l st S I =>
  im_iinc 3 1 l st S I fun l st S I =>
  SW mi_X2_isSafe 42 d Rq l st S I)
theorem rv_X2_isSafe_78 {d : Nat} {Rq : SmQ} {l : SmL} {st : List SmV} {S : SmS} {I : SmI} (h : tr_X2_isSafe_78 d Rq l st S I) : SW mi_X2_isSafe 78 d Rq l st S I :=
  (show SmW mi_X2_isSafe 78 d Rq (tr_X2_isSafe_78 d Rq) from
  (xv_zeq dX2_isSafe_78 rfl
  (xv_iconst dX2_isSafe_85 rfl (inRd rfl)
  (xv_istore_n dX2_isSafe_86 rfl (Nat.le_of_ble_eq_true rfl)
  (xv_iinc dX2_isSafe_87 (Nat.le_of_ble_eq_true rfl)
  (xv_goto dX2_isSafe_90 rfl (fun _ _ _ _ h => h)))))
  (xv_iconst dX2_isSafe_81 rfl (inRd rfl)
  (xv_goto dX2_isSafe_82 rfl (xv_istore_n dX2_isSafe_86 rfl (Nat.le_of_ble_eq_true rfl)
  (xv_iinc dX2_isSafe_87 (Nat.le_of_ble_eq_true rfl)
  (xv_goto dX2_isSafe_90 rfl (fun _ _ _ _ h => h)))))))) l st S I h
def tr_X2_isSafe_93 (d : Nat) (Rq : SmQ) (l : SmL) (st : List SmV) (S : SmS) (I : SmI) : Prop :=
  im_aload 0 l st S I fun l st S I =>
  im_getR 3 1 l st S I fun l st S I =>
  im_iload 1 l st S I fun l st S I =>
  im_iload 2 l st S I fun l st S I =>
  im_zeq l st S I (fun l st S I =>
  im_ic 2 l st S I fun l st S I =>
  im_i2b l st S I fun l st S I =>
  im_bast l st S I fun l st S I =>
  im_iload 2 l st S I fun l st S I =>
  im_zreturn Rq l st S I) (fun l st S I =>
  im_ic 1 l st S I fun l st S I =>
  im_i2b l st S I fun l st S I =>
  im_bast l st S I fun l st S I =>
  im_iload 2 l st S I fun l st S I =>
  im_zreturn Rq l st S I)
theorem rv_X2_isSafe_93 {d : Nat} {Rq : SmQ} {l : SmL} {st : List SmV} {S : SmS} {I : SmI} (h : tr_X2_isSafe_93 d Rq l st S I) : SW mi_X2_isSafe 93 d Rq l st S I :=
  (show SmW mi_X2_isSafe 93 d Rq (tr_X2_isSafe_93 d Rq) from
  (xv_aload_n dX2_isSafe_93 rfl
  (xv_getR (k := 1) dX2_isSafe_94 cl_3 tg_3 in_X2 (Nat.le_of_ble_eq_true rfl) rfl q483
  (xv_iload_n dX2_isSafe_97 rfl
  (xv_iload_n dX2_isSafe_98 rfl
  (xv_zeq dX2_isSafe_99 rfl
  (xv_iconst dX2_isSafe_106 rfl (inRd rfl)
  (xv_i2b dX2_isSafe_107
  (xv_bast dX2_isSafe_108
  (xv_iload_n dX2_isSafe_109 rfl
  (xv_zreturn dX2_isSafe_110 rfl)))))
  (xv_iconst dX2_isSafe_102 rfl (inRd rfl)
  (xv_goto dX2_isSafe_103 rfl (xv_i2b dX2_isSafe_107
  (xv_bast dX2_isSafe_108
  (xv_iload_n dX2_isSafe_109 rfl
  (xv_zreturn dX2_isSafe_110 rfl)))))))))))) l st S I h
def tr_X2_starts_0 (d : Nat) (Rq : SmQ) (l : SmL) (st : List SmV) (S : SmS) (I : SmI) : Prop :=
  im_ic 0 l st S I fun l st S I =>
  im_istore 1 l st S I fun l st S I =>
  SW mi_X2_starts 2 d Rq l st S I
theorem rv_X2_starts_0 {d : Nat} {Rq : SmQ} {l : SmL} {st : List SmV} {S : SmS} {I : SmI} (h : tr_X2_starts_0 d Rq l st S I) : SW mi_X2_starts 0 d Rq l st S I :=
  (show SmW mi_X2_starts 0 d Rq (tr_X2_starts_0 d Rq) from
  (xv_iconst dX2_starts_0 rfl (inRd rfl)
  (xv_istore_n dX2_starts_1 rfl (Nat.le_of_ble_eq_true rfl)
  (fun _ _ _ _ h => h)))) l st S I h
def tr_X2_starts_2 (d : Nat) (Rq : SmQ) (l : SmL) (st : List SmV) (S : SmS) (I : SmI) : Prop :=
  im_iload 1 l st S I fun l st S I =>
  im_ic 2401 l st S I fun l st S I =>
  im_cge l st S I (fun l st S I =>
  im_return Rq l st S I) (fun l st S I =>
  im_aload 0 l st S I fun l st S I =>
  im_getR 3 2 l st S I fun l st S I =>
  im_iload 1 l st S I fun l st S I =>
  im_ic 0 l st S I fun l st S I =>
  im_zast l st S I fun l st S I =>
  im_iinc 1 1 l st S I fun l st S I =>
  SW mi_X2_starts 2 d Rq l st S I)
theorem rv_X2_starts_2 {d : Nat} {Rq : SmQ} {l : SmL} {st : List SmV} {S : SmS} {I : SmI} (h : tr_X2_starts_2 d Rq l st S I) : SW mi_X2_starts 2 d Rq l st S I :=
  (show SmW mi_X2_starts 2 d Rq (tr_X2_starts_2 d Rq) from
  (xv_iload_n dX2_starts_2 rfl
  (xv_sipush dX2_starts_3 rfl (inRd rfl)
  (xv_cge dX2_starts_6 rfl
  (xv_return dX2_starts_22 rfl)
  (xv_aload_n dX2_starts_9 rfl
  (xv_getR (k := 2) dX2_starts_10 cl_3 tg_3 in_X2 (Nat.le_of_ble_eq_true rfl) rfl q484
  (xv_iload_n dX2_starts_13 rfl
  (xv_iconst dX2_starts_14 rfl (inRd rfl)
  (xv_zast dX2_starts_15
  (xv_iinc dX2_starts_16 (Nat.le_of_ble_eq_true rfl)
  (xv_goto dX2_starts_19 rfl (fun _ _ _ _ h => h)))))))))))) l st S I h
def tr_X2_meets_0 (d : Nat) (Rq : SmQ) (l : SmL) (st : List SmV) (S : SmS) (I : SmI) : Prop :=
  im_aload 0 l st S I fun l st S I =>
  im_getR 3 2 l st S I fun l st S I =>
  im_iload 1 l st S I fun l st S I =>
  im_ald 102 l st S I fun l st S I =>
  im_zne l st S I (fun l st S I =>
  im_return Rq l st S I) (fun l st S I =>
  im_aload 0 l st S I fun l st S I =>
  im_getR 3 2 l st S I fun l st S I =>
  im_iload 1 l st S I fun l st S I =>
  im_ic 1 l st S I fun l st S I =>
  im_zast l st S I fun l st S I =>
  im_ic 0 l st S I fun l st S I =>
  im_istore 2 l st S I fun l st S I =>
  SW mi_X2_meets 18 d Rq l st S I)
theorem rv_X2_meets_0 {d : Nat} {Rq : SmQ} {l : SmL} {st : List SmV} {S : SmS} {I : SmI} (h : tr_X2_meets_0 d Rq l st S I) : SW mi_X2_meets 0 d Rq l st S I :=
  (show SmW mi_X2_meets 0 d Rq (tr_X2_meets_0 d Rq) from
  (xv_aload_n dX2_meets_0 rfl
  (xv_getR (k := 2) dX2_meets_1 cl_3 tg_3 in_X2 (Nat.le_of_ble_eq_true rfl) rfl q484
  (xv_iload_n dX2_meets_4 rfl
  (xv_zald dX2_meets_5
  (xv_zne dX2_meets_6 rfl
  (xv_return dX2_meets_53 rfl)
  (xv_aload_n dX2_meets_9 rfl
  (xv_getR (k := 2) dX2_meets_10 cl_3 tg_3 in_X2 (Nat.le_of_ble_eq_true rfl) rfl q484
  (xv_iload_n dX2_meets_13 rfl
  (xv_iconst dX2_meets_14 rfl (inRd rfl)
  (xv_zast dX2_meets_15
  (xv_iconst dX2_meets_16 rfl (inRd rfl)
  (xv_istore_n dX2_meets_17 rfl (Nat.le_of_ble_eq_true rfl)
  (fun _ _ _ _ h => h)))))))))))))) l st S I h
def tr_X2_meets_18 (d : Nat) (Rq : SmQ) (l : SmL) (st : List SmV) (S : SmS) (I : SmI) : Prop :=
  im_iload 2 l st S I fun l st S I =>
  im_aload 0 l st S I fun l st S I =>
  im_getR 3 0 l st S I fun l st S I =>
  im_getI 2 10 l st S I fun l st S I =>
  im_cge l st S I (fun l st S I =>
  im_return Rq l st S I) (fun l st S I =>
  im_aload 0 l st S I fun l st S I =>
  im_iload 1 l st S I fun l st S I =>
  im_iload 2 l st S I fun l st S I =>
  im_callV 2 3 mi_X2_moved d (retK mi_X2_meets 32 35 d Rq l) st S I)
theorem rv_X2_meets_18 {d : Nat} {Rq : SmQ} {l : SmL} {st : List SmV} {S : SmS} {I : SmI} (h : tr_X2_meets_18 d Rq l st S I) : SW mi_X2_meets 18 d Rq l st S I :=
  (show SmW mi_X2_meets 18 d Rq (tr_X2_meets_18 d Rq) from
  (xv_iload_n dX2_meets_18 rfl
  (xv_aload_n dX2_meets_19 rfl
  (xv_getR (k := 0) dX2_meets_20 cl_3 tg_3 in_X2 (Nat.le_of_ble_eq_true rfl) rfl q482
  (xv_getIN (k := 10) dX2_meets_23 cl_2 tg_2 in_X1 (Nat.le_of_ble_eq_true rfl) rfl q217
  (xv_cge dX2_meets_26 rfl
  (xv_return dX2_meets_53 rfl)
  (xv_aload_n dX2_meets_29 rfl
  (xv_iload_n dX2_meets_30 rfl
  (xv_iload_n dX2_meets_31 rfl
  (xv_callV dX2_meets_32 cl_3 tg_3 ok_X2_moved rfl (lw_V q519 q520 q521 q106 q522))))))))))) l st S I h
def tr_X2_meets_35 (d : Nat) (Rq : SmQ) (l : SmL) (st : List SmV) (S : SmS) (I : SmI) : Prop :=
  im_istore 3 l st S I fun l st S I =>
  im_iload 3 l st S I fun l st S I =>
  im_ic (-4) l st S I fun l st S I =>
  im_ceq l st S I (fun l st S I =>
  SW mi_X2_meets 47 d Rq l st S I) (fun l st S I =>
  im_aload 0 l st S I fun l st S I =>
  im_iload 3 l st S I fun l st S I =>
  im_callV 1 3 mi_X2_meets d (retK mi_X2_meets 44 47 d Rq l) st S I)
theorem rv_X2_meets_35 {d : Nat} {Rq : SmQ} {l : SmL} {st : List SmV} {S : SmS} {I : SmI} (h : tr_X2_meets_35 d Rq l st S I) : SW mi_X2_meets 35 d Rq l st S I :=
  (show SmW mi_X2_meets 35 d Rq (tr_X2_meets_35 d Rq) from
  (xv_istore_n dX2_meets_35 rfl (Nat.le_of_ble_eq_true rfl)
  (xv_iload_n dX2_meets_36 rfl
  (xv_bipush dX2_meets_37 rfl (inRd rfl)
  (xv_ceq dX2_meets_39 rfl
  (fun _ _ _ _ h => h)
  (xv_aload_n dX2_meets_42 rfl
  (xv_iload_n dX2_meets_43 rfl
  (xv_callV dX2_meets_44 cl_3 tg_3 ok_X2_meets rfl (lw_V q686 q683 q684 q106 q685))))))))) l st S I h
def tr_X2_meets_47 (d : Nat) (Rq : SmQ) (l : SmL) (st : List SmV) (S : SmS) (I : SmI) : Prop :=
  im_iinc 2 1 l st S I fun l st S I =>
  SW mi_X2_meets 18 d Rq l st S I
theorem rv_X2_meets_47 {d : Nat} {Rq : SmQ} {l : SmL} {st : List SmV} {S : SmS} {I : SmI} (h : tr_X2_meets_47 d Rq l st S I) : SW mi_X2_meets 47 d Rq l st S I :=
  (show SmW mi_X2_meets 47 d Rq (tr_X2_meets_47 d Rq) from
  (xv_iinc dX2_meets_47 (Nat.le_of_ble_eq_true rfl)
  (xv_goto dX2_meets_50 rfl (fun _ _ _ _ h => h)))) l st S I h
def tr_X2_gone_0 (d : Nat) (Rq : SmQ) (l : SmL) (st : List SmV) (S : SmS) (I : SmI) : Prop :=
  im_iload 1 l st S I fun l st S I =>
  im_istore 3 l st S I fun l st S I =>
  SW mi_X2_gone 2 d Rq l st S I
theorem rv_X2_gone_0 {d : Nat} {Rq : SmQ} {l : SmL} {st : List SmV} {S : SmS} {I : SmI} (h : tr_X2_gone_0 d Rq l st S I) : SW mi_X2_gone 0 d Rq l st S I :=
  (show SmW mi_X2_gone 0 d Rq (tr_X2_gone_0 d Rq) from
  (xv_iload_n dX2_gone_0 rfl
  (xv_istore_n dX2_gone_1 rfl (Nat.le_of_ble_eq_true rfl)
  (fun _ _ _ _ h => h)))) l st S I h
def tr_X2_gone_2 (d : Nat) (Rq : SmQ) (l : SmL) (st : List SmV) (S : SmS) (I : SmI) : Prop :=
  im_iload 3 l st S I fun l st S I =>
  im_ic (-4) l st S I fun l st S I =>
  im_ceq l st S I (fun l st S I =>
  im_iload 3 l st S I fun l st S I =>
  im_ireturn Rq l st S I) (fun l st S I =>
  im_iload 3 l st S I fun l st S I =>
  im_iload 2 l st S I fun l st S I =>
  im_p_X0_placeIn d l st S I fun l st S I =>
  im_ic 6 l st S I fun l st S I =>
  im_ceq l st S I (fun l st S I =>
  im_iload 3 l st S I fun l st S I =>
  im_ireturn Rq l st S I) (fun l st S I =>
  im_aload 0 l st S I fun l st S I =>
  im_iload 3 l st S I fun l st S I =>
  im_iload 2 l st S I fun l st S I =>
  im_callV 2 3 mi_X2_moved d (retK mi_X2_gone 21 24 d Rq l) st S I))
theorem rv_X2_gone_2 {d : Nat} {Rq : SmQ} {l : SmL} {st : List SmV} {S : SmS} {I : SmI} (h : tr_X2_gone_2 d Rq l st S I) : SW mi_X2_gone 2 d Rq l st S I :=
  (show SmW mi_X2_gone 2 d Rq (tr_X2_gone_2 d Rq) from
  (xv_iload_n dX2_gone_2 rfl
  (xv_bipush dX2_gone_3 rfl (inRd rfl)
  (xv_ceq dX2_gone_5 rfl
  (xv_iload_n dX2_gone_28 rfl
  (xv_ireturn dX2_gone_29 rfl))
  (xv_iload_n dX2_gone_8 rfl
  (xv_iload_n dX2_gone_9 rfl
  (xv_pn_X0_placeIn dX2_gone_10 q508
  (xv_bipush dX2_gone_13 rfl (inRd rfl)
  (xv_ceq dX2_gone_15 rfl
  (xv_iload_n dX2_gone_28 rfl
  (xv_ireturn dX2_gone_29 rfl))
  (xv_aload_n dX2_gone_18 rfl
  (xv_iload_n dX2_gone_19 rfl
  (xv_iload_n dX2_gone_20 rfl
  (xv_callV dX2_gone_21 cl_3 tg_3 ok_X2_moved rfl (lw_V q519 q520 q521 q106 q522)))))))))))))) l st S I h
def tr_X2_gone_24 (d : Nat) (Rq : SmQ) (l : SmL) (st : List SmV) (S : SmS) (I : SmI) : Prop :=
  im_istore 3 l st S I fun l st S I =>
  SW mi_X2_gone 2 d Rq l st S I
theorem rv_X2_gone_24 {d : Nat} {Rq : SmQ} {l : SmL} {st : List SmV} {S : SmS} {I : SmI} (h : tr_X2_gone_24 d Rq l st S I) : SW mi_X2_gone 24 d Rq l st S I :=
  (show SmW mi_X2_gone 24 d Rq (tr_X2_gone_24 d Rq) from
  (xv_istore_n dX2_gone_24 rfl (Nat.le_of_ble_eq_true rfl)
  (xv_goto dX2_gone_25 rfl (fun _ _ _ _ h => h)))) l st S I h
def tr_X0_inSection_0 (d : Nat) (Rq : SmQ) (l : SmL) (st : List SmV) (S : SmS) (I : SmI) : Prop :=
  im_ic 0 l st S I fun l st S I =>
  im_istore 2 l st S I fun l st S I =>
  SW mi_X0_inSection 2 d Rq l st S I
theorem rv_X0_inSection_0 {d : Nat} {Rq : SmQ} {l : SmL} {st : List SmV} {S : SmS} {I : SmI} (h : tr_X0_inSection_0 d Rq l st S I) : SW mi_X0_inSection 0 d Rq l st S I :=
  (show SmW mi_X0_inSection 0 d Rq (tr_X0_inSection_0 d Rq) from
  (xv_iconst dX0_inSection_0 rfl (inRd rfl)
  (xv_istore_n dX0_inSection_1 rfl (Nat.le_of_ble_eq_true rfl)
  (fun _ _ _ _ h => h)))) l st S I h
def tr_X0_inSection_2 (d : Nat) (Rq : SmQ) (l : SmL) (st : List SmV) (S : SmS) (I : SmI) : Prop :=
  im_iload 2 l st S I fun l st S I =>
  im_aload 0 l st S I fun l st S I =>
  im_getI 2 10 l st S I fun l st S I =>
  im_cge l st S I (fun l st S I =>
  im_ic (-4) l st S I fun l st S I =>
  im_ireturn Rq l st S I) (fun l st S I =>
  im_iload 2 l st S I fun l st S I =>
  im_iload 1 l st S I fun l st S I =>
  im_ceq l st S I (fun l st S I =>
  im_iinc 2 1 l st S I fun l st S I =>
  SW mi_X0_inSection 2 d Rq l st S I) (fun l st S I =>
  im_aload 0 l st S I fun l st S I =>
  im_getR 2 8 l st S I fun l st S I =>
  im_iload 2 l st S I fun l st S I =>
  im_ald 102 l st S I fun l st S I =>
  im_zeq l st S I (fun l st S I =>
  im_iinc 2 1 l st S I fun l st S I =>
  SW mi_X0_inSection 2 d Rq l st S I) (fun l st S I =>
  im_aload 0 l st S I fun l st S I =>
  im_iload 2 l st S I fun l st S I =>
  im_p_X1_section d l st S I fun l st S I =>
  im_aload 0 l st S I fun l st S I =>
  im_iload 1 l st S I fun l st S I =>
  im_p_X1_section d l st S I fun l st S I =>
  im_cne l st S I (fun l st S I =>
  im_iinc 2 1 l st S I fun l st S I =>
  SW mi_X0_inSection 2 d Rq l st S I) (fun l st S I =>
  im_iload 2 l st S I fun l st S I =>
  im_ireturn Rq l st S I))))
theorem rv_X0_inSection_2 {d : Nat} {Rq : SmQ} {l : SmL} {st : List SmV} {S : SmS} {I : SmI} (h : tr_X0_inSection_2 d Rq l st S I) : SW mi_X0_inSection 2 d Rq l st S I :=
  (show SmW mi_X0_inSection 2 d Rq (tr_X0_inSection_2 d Rq) from
  (xv_iload_n dX0_inSection_2 rfl
  (xv_aload_n dX0_inSection_3 rfl
  (xv_getIN (k := 10) dX0_inSection_4 cl_2 tg_2 in_X1 (Nat.le_of_ble_eq_true rfl) rfl q219
  (xv_cge dX0_inSection_7 rfl
  (xv_bipush dX0_inSection_45 rfl (inRd rfl)
  (xv_ireturn dX0_inSection_47 rfl))
  (xv_iload_n dX0_inSection_10 rfl
  (xv_iload_n dX0_inSection_11 rfl
  (xv_ceq dX0_inSection_12 rfl
  (xv_iinc dX0_inSection_39 (Nat.le_of_ble_eq_true rfl)
  (xv_goto dX0_inSection_42 rfl (fun _ _ _ _ h => h)))
  (xv_aload_n dX0_inSection_15 rfl
  (xv_getRN (k := 8) dX0_inSection_16 cl_2 tg_2 in_X1 (Nat.le_of_ble_eq_true rfl) rfl q213
  (xv_iload_n dX0_inSection_19 rfl
  (xv_zald dX0_inSection_20
  (xv_zeq dX0_inSection_21 rfl
  (xv_iinc dX0_inSection_39 (Nat.le_of_ble_eq_true rfl)
  (xv_goto dX0_inSection_42 rfl (fun _ _ _ _ h => h)))
  (xv_aload_n dX0_inSection_24 rfl
  (xv_iload_n dX0_inSection_25 rfl
  (xv_p_X1_section dX0_inSection_26 (lw_V q627 q628 q629 q105 q630)
  (xv_aload_n dX0_inSection_29 rfl
  (xv_iload_n dX0_inSection_30 rfl
  (xv_p_X1_section dX0_inSection_31 (lw_V q627 q628 q629 q105 q630)
  (xv_cne dX0_inSection_34 rfl
  (xv_iinc dX0_inSection_39 (Nat.le_of_ble_eq_true rfl)
  (xv_goto dX0_inSection_42 rfl (fun _ _ _ _ h => h)))
  (xv_iload_n dX0_inSection_37 rfl
  (xv_ireturn dX0_inSection_38 rfl)))))))))))))))))))))) l st S I h
def tr_X0_movesLeft_0 (d : Nat) (Rq : SmQ) (l : SmL) (st : List SmV) (S : SmS) (I : SmI) : Prop :=
  im_ic 0 l st S I fun l st S I =>
  im_istore 1 l st S I fun l st S I =>
  im_ic 0 l st S I fun l st S I =>
  im_istore 2 l st S I fun l st S I =>
  SW mi_X0_movesLeft 4 d Rq l st S I
theorem rv_X0_movesLeft_0 {d : Nat} {Rq : SmQ} {l : SmL} {st : List SmV} {S : SmS} {I : SmI} (h : tr_X0_movesLeft_0 d Rq l st S I) : SW mi_X0_movesLeft 0 d Rq l st S I :=
  (show SmW mi_X0_movesLeft 0 d Rq (tr_X0_movesLeft_0 d Rq) from
  (xv_iconst dX0_movesLeft_0 rfl (inRd rfl)
  (xv_istore_n dX0_movesLeft_1 rfl (Nat.le_of_ble_eq_true rfl)
  (xv_iconst dX0_movesLeft_2 rfl (inRd rfl)
  (xv_istore_n dX0_movesLeft_3 rfl (Nat.le_of_ble_eq_true rfl)
  (fun _ _ _ _ h => h)))))) l st S I h
def tr_X0_movesLeft_4 (d : Nat) (Rq : SmQ) (l : SmL) (st : List SmV) (S : SmS) (I : SmI) : Prop :=
  im_iload 2 l st S I fun l st S I =>
  im_aload 0 l st S I fun l st S I =>
  im_getR 1 3 l st S I fun l st S I =>
  im_getI 2 10 l st S I fun l st S I =>
  im_cge l st S I (fun l st S I =>
  im_iload 1 l st S I fun l st S I =>
  im_ireturn Rq l st S I) (fun l st S I =>
  im_iload 1 l st S I fun l st S I =>
  im_aload 0 l st S I fun l st S I =>
  im_getR 1 3 l st S I fun l st S I =>
  im_getR 2 5 l st S I fun l st S I =>
  im_iload 2 l st S I fun l st S I =>
  im_ald 100 l st S I fun l st S I =>
  im_aload 0 l st S I fun l st S I =>
  im_getR 1 3 l st S I fun l st S I =>
  im_getR 2 7 l st S I fun l st S I =>
  im_iload 2 l st S I fun l st S I =>
  im_ald 100 l st S I fun l st S I =>
  im_isub l st S I fun l st S I =>
  im_abs l st S I fun l st S I =>
  im_iadd l st S I fun l st S I =>
  im_istore 1 l st S I fun l st S I =>
  im_iinc 2 1 l st S I fun l st S I =>
  SW mi_X0_movesLeft 4 d Rq l st S I)
theorem rv_X0_movesLeft_4 {d : Nat} {Rq : SmQ} {l : SmL} {st : List SmV} {S : SmS} {I : SmI} (h : tr_X0_movesLeft_4 d Rq l st S I) : SW mi_X0_movesLeft 4 d Rq l st S I :=
  (show SmW mi_X0_movesLeft 4 d Rq (tr_X0_movesLeft_4 d Rq) from
  (xv_iload_n dX0_movesLeft_4 rfl
  (xv_aload_n dX0_movesLeft_5 rfl
  (xv_getR (k := 3) dX0_movesLeft_6 cl_1 tg_1 in_X0 (Nat.le_of_ble_eq_true rfl) rfl q1710
  (xv_getIN (k := 10) dX0_movesLeft_9 cl_2 tg_2 in_X1 (Nat.le_of_ble_eq_true rfl) rfl q219
  (xv_cge dX0_movesLeft_12 rfl
  (xv_iload_n dX0_movesLeft_46 rfl
  (xv_ireturn dX0_movesLeft_47 rfl))
  (xv_iload_n dX0_movesLeft_15 rfl
  (xv_aload_n dX0_movesLeft_16 rfl
  (xv_getR (k := 3) dX0_movesLeft_17 cl_1 tg_1 in_X0 (Nat.le_of_ble_eq_true rfl) rfl q1710
  (xv_getRN (k := 5) dX0_movesLeft_20 cl_2 tg_2 in_X1 (Nat.le_of_ble_eq_true rfl) rfl q206
  (xv_iload_n dX0_movesLeft_23 rfl
  (xv_iald dX0_movesLeft_24
  (xv_aload_n dX0_movesLeft_25 rfl
  (xv_getR (k := 3) dX0_movesLeft_26 cl_1 tg_1 in_X0 (Nat.le_of_ble_eq_true rfl) rfl q1710
  (xv_getRN (k := 7) dX0_movesLeft_29 cl_2 tg_2 in_X1 (Nat.le_of_ble_eq_true rfl) rfl q211
  (xv_iload_n dX0_movesLeft_32 rfl
  (xv_iald dX0_movesLeft_33
  (xv_isub dX0_movesLeft_34
  (xv_abs dX0_movesLeft_35 q615
  (xv_iadd dX0_movesLeft_38
  (xv_istore_n dX0_movesLeft_39 rfl (Nat.le_of_ble_eq_true rfl)
  (xv_iinc dX0_movesLeft_40 (Nat.le_of_ble_eq_true rfl)
  (xv_goto dX0_movesLeft_43 rfl (fun _ _ _ _ h => h)))))))))))))))))))))))) l st S I h
def tr_X0_thereAlready_0 (d : Nat) (Rq : SmQ) (l : SmL) (st : List SmV) (S : SmS) (I : SmI) : Prop :=
  im_aload 0 l st S I fun l st S I =>
  im_getR 1 3 l st S I fun l st S I =>
  im_getR 2 7 l st S I fun l st S I =>
  im_iload 1 l st S I fun l st S I =>
  im_ald 100 l st S I fun l st S I =>
  im_aload 0 l st S I fun l st S I =>
  im_getR 1 3 l st S I fun l st S I =>
  im_iload 1 l st S I fun l st S I =>
  im_p_X1_way d l st S I fun l st S I =>
  im_iadd l st S I fun l st S I =>
  im_istore 2 l st S I fun l st S I =>
  im_aload 0 l st S I fun l st S I =>
  im_getR 1 3 l st S I fun l st S I =>
  im_p_X1_posture d l st S I fun l st S I =>
  im_istore 3 l st S I fun l st S I =>
  im_ic 0 l st S I fun l st S I =>
  im_istore 4 l st S I fun l st S I =>
  SW mi_X0_thereAlready 30 d Rq l st S I
theorem rv_X0_thereAlready_0 {d : Nat} {Rq : SmQ} {l : SmL} {st : List SmV} {S : SmS} {I : SmI} (h : tr_X0_thereAlready_0 d Rq l st S I) : SW mi_X0_thereAlready 0 d Rq l st S I :=
  (show SmW mi_X0_thereAlready 0 d Rq (tr_X0_thereAlready_0 d Rq) from
  (xv_aload_n dX0_thereAlready_0 rfl
  (xv_getR (k := 3) dX0_thereAlready_1 cl_1 tg_1 in_X0 (Nat.le_of_ble_eq_true rfl) rfl q1710
  (xv_getRN (k := 7) dX0_thereAlready_4 cl_2 tg_2 in_X1 (Nat.le_of_ble_eq_true rfl) rfl q211
  (xv_iload_n dX0_thereAlready_7 rfl
  (xv_iald dX0_thereAlready_8
  (xv_aload_n dX0_thereAlready_9 rfl
  (xv_getR (k := 3) dX0_thereAlready_10 cl_1 tg_1 in_X0 (Nat.le_of_ble_eq_true rfl) rfl q1710
  (xv_iload_n dX0_thereAlready_13 rfl
  (xv_p_X1_way dX0_thereAlready_14 (lw_V q673 q524 q525 q105 q526)
  (xv_iadd dX0_thereAlready_17
  (xv_istore_n dX0_thereAlready_18 rfl (Nat.le_of_ble_eq_true rfl)
  (xv_aload_n dX0_thereAlready_19 rfl
  (xv_getR (k := 3) dX0_thereAlready_20 cl_1 tg_1 in_X0 (Nat.le_of_ble_eq_true rfl) rfl q1710
  (xv_p_X1_posture dX0_thereAlready_23 (lw_V q600 q497 q498 q105 q499)
  (xv_istore_n dX0_thereAlready_26 rfl (Nat.le_of_ble_eq_true rfl)
  (xv_iconst dX0_thereAlready_27 rfl (inRd rfl)
  (xv_istore dX0_thereAlready_28 (Nat.le_of_ble_eq_true rfl)
  (fun _ _ _ _ h => h))))))))))))))))))) l st S I h
def tr_X0_thereAlready_30 (d : Nat) (Rq : SmQ) (l : SmL) (st : List SmV) (S : SmS) (I : SmI) : Prop :=
  im_iload 4 l st S I fun l st S I =>
  im_aload 0 l st S I fun l st S I =>
  im_getR 1 3 l st S I fun l st S I =>
  im_getI 2 10 l st S I fun l st S I =>
  im_cge l st S I (fun l st S I =>
  im_ic (-4) l st S I fun l st S I =>
  im_ireturn Rq l st S I) (fun l st S I =>
  im_iload 3 l st S I fun l st S I =>
  im_iload 4 l st S I fun l st S I =>
  im_p_X0_placeIn d l st S I fun l st S I =>
  im_iload 2 l st S I fun l st S I =>
  im_cne l st S I (fun l st S I =>
  im_iinc 4 1 l st S I fun l st S I =>
  SW mi_X0_thereAlready 30 d Rq l st S I) (fun l st S I =>
  im_iload 4 l st S I fun l st S I =>
  im_ireturn Rq l st S I))
theorem rv_X0_thereAlready_30 {d : Nat} {Rq : SmQ} {l : SmL} {st : List SmV} {S : SmS} {I : SmI} (h : tr_X0_thereAlready_30 d Rq l st S I) : SW mi_X0_thereAlready 30 d Rq l st S I :=
  (show SmW mi_X0_thereAlready 30 d Rq (tr_X0_thereAlready_30 d Rq) from
  (xv_iload dX0_thereAlready_30
  (xv_aload_n dX0_thereAlready_32 rfl
  (xv_getR (k := 3) dX0_thereAlready_33 cl_1 tg_1 in_X0 (Nat.le_of_ble_eq_true rfl) rfl q1710
  (xv_getIN (k := 10) dX0_thereAlready_36 cl_2 tg_2 in_X1 (Nat.le_of_ble_eq_true rfl) rfl q219
  (xv_cge dX0_thereAlready_39 rfl
  (xv_bipush dX0_thereAlready_61 rfl (inRd rfl)
  (xv_ireturn dX0_thereAlready_63 rfl))
  (xv_iload_n dX0_thereAlready_42 rfl
  (xv_iload dX0_thereAlready_43
  (xv_p_X0_placeIn dX0_thereAlready_45 (lw_S q605 q509 q104 q510)
  (xv_iload_n dX0_thereAlready_48 rfl
  (xv_cne dX0_thereAlready_49 rfl
  (xv_iinc dX0_thereAlready_55 (Nat.le_of_ble_eq_true rfl)
  (xv_goto dX0_thereAlready_58 rfl (fun _ _ _ _ h => h)))
  (xv_iload dX0_thereAlready_52
  (xv_ireturn dX0_thereAlready_54 rfl))))))))))))) l st S I h
def tr_X0_sumOf_0 (d : Nat) (Rq : SmQ) (l : SmL) (st : List SmV) (S : SmS) (I : SmI) : Prop :=
  im_ic 0 l st S I fun l st S I =>
  im_istore 2 l st S I fun l st S I =>
  im_ic 0 l st S I fun l st S I =>
  im_istore 3 l st S I fun l st S I =>
  SW mi_X0_sumOf 4 d Rq l st S I
theorem rv_X0_sumOf_0 {d : Nat} {Rq : SmQ} {l : SmL} {st : List SmV} {S : SmS} {I : SmI} (h : tr_X0_sumOf_0 d Rq l st S I) : SW mi_X0_sumOf 0 d Rq l st S I :=
  (show SmW mi_X0_sumOf 0 d Rq (tr_X0_sumOf_0 d Rq) from
  (xv_iconst dX0_sumOf_0 rfl (inRd rfl)
  (xv_istore_n dX0_sumOf_1 rfl (Nat.le_of_ble_eq_true rfl)
  (xv_iconst dX0_sumOf_2 rfl (inRd rfl)
  (xv_istore_n dX0_sumOf_3 rfl (Nat.le_of_ble_eq_true rfl)
  (fun _ _ _ _ h => h)))))) l st S I h
def tr_X0_sumOf_4 (d : Nat) (Rq : SmQ) (l : SmL) (st : List SmV) (S : SmS) (I : SmI) : Prop :=
  im_iload 3 l st S I fun l st S I =>
  im_aload 0 l st S I fun l st S I =>
  im_getR 1 3 l st S I fun l st S I =>
  im_getI 2 3 l st S I fun l st S I =>
  im_cge l st S I (fun l st S I =>
  im_iload 2 l st S I fun l st S I =>
  im_ireturn Rq l st S I) (fun l st S I =>
  im_iload 2 l st S I fun l st S I =>
  im_iload 1 l st S I fun l st S I =>
  im_ic 1 l st S I fun l st S I =>
  im_cne l st S I (fun l st S I =>
  im_iload 3 l st S I fun l st S I =>
  im_ic 1 l st S I fun l st S I =>
  im_iadd l st S I fun l st S I =>
  im_aload 0 l st S I fun l st S I =>
  im_getR 1 3 l st S I fun l st S I =>
  im_getI 2 3 l st S I fun l st S I =>
  im_cge l st S I (fun l st S I =>
  im_ic 0 l st S I fun l st S I =>
  im_iadd l st S I fun l st S I =>
  im_istore 2 l st S I fun l st S I =>
  im_iinc 3 1 l st S I fun l st S I =>
  SW mi_X0_sumOf 4 d Rq l st S I) (fun l st S I =>
  im_aload 0 l st S I fun l st S I =>
  im_getR 1 3 l st S I fun l st S I =>
  im_getR 2 2 l st S I fun l st S I =>
  im_iload 3 l st S I fun l st S I =>
  im_ald 100 l st S I fun l st S I =>
  im_iadd l st S I fun l st S I =>
  im_istore 2 l st S I fun l st S I =>
  im_iinc 3 1 l st S I fun l st S I =>
  SW mi_X0_sumOf 4 d Rq l st S I)) (fun l st S I =>
  im_aload 0 l st S I fun l st S I =>
  im_getR 1 3 l st S I fun l st S I =>
  im_getR 2 1 l st S I fun l st S I =>
  im_iload 3 l st S I fun l st S I =>
  im_ald 100 l st S I fun l st S I =>
  im_iadd l st S I fun l st S I =>
  im_istore 2 l st S I fun l st S I =>
  im_iinc 3 1 l st S I fun l st S I =>
  SW mi_X0_sumOf 4 d Rq l st S I))
theorem rv_X0_sumOf_4 {d : Nat} {Rq : SmQ} {l : SmL} {st : List SmV} {S : SmS} {I : SmI} (h : tr_X0_sumOf_4 d Rq l st S I) : SW mi_X0_sumOf 4 d Rq l st S I :=
  (show SmW mi_X0_sumOf 4 d Rq (tr_X0_sumOf_4 d Rq) from
  (xv_iload_n dX0_sumOf_4 rfl
  (xv_aload_n dX0_sumOf_5 rfl
  (xv_getR (k := 3) dX0_sumOf_6 cl_1 tg_1 in_X0 (Nat.le_of_ble_eq_true rfl) rfl q1710
  (xv_getIN (k := 3) dX0_sumOf_9 cl_2 tg_2 in_X1 (Nat.le_of_ble_eq_true rfl) rfl q201
  (xv_cge dX0_sumOf_12 rfl
  (xv_iload_n dX0_sumOf_67 rfl
  (xv_ireturn dX0_sumOf_68 rfl))
  (xv_iload_n dX0_sumOf_15 rfl
  (xv_iload_n dX0_sumOf_16 rfl
  (xv_iconst dX0_sumOf_17 rfl (inRd rfl)
  (xv_cne dX0_sumOf_18 rfl
  (xv_iload_n dX0_sumOf_33 rfl
  (xv_iconst dX0_sumOf_34 rfl (inRd rfl)
  (xv_iadd dX0_sumOf_35
  (xv_aload_n dX0_sumOf_36 rfl
  (xv_getR (k := 3) dX0_sumOf_37 cl_1 tg_1 in_X0 (Nat.le_of_ble_eq_true rfl) rfl q1710
  (xv_getIN (k := 3) dX0_sumOf_40 cl_2 tg_2 in_X1 (Nat.le_of_ble_eq_true rfl) rfl q201
  (xv_cge dX0_sumOf_43 rfl
  (xv_iconst dX0_sumOf_58 rfl (inRd rfl)
  (xv_iadd dX0_sumOf_59
  (xv_istore_n dX0_sumOf_60 rfl (Nat.le_of_ble_eq_true rfl)
  (xv_iinc dX0_sumOf_61 (Nat.le_of_ble_eq_true rfl)
  (xv_goto dX0_sumOf_64 rfl (fun _ _ _ _ h => h))))))
  (xv_aload_n dX0_sumOf_46 rfl
  (xv_getR (k := 3) dX0_sumOf_47 cl_1 tg_1 in_X0 (Nat.le_of_ble_eq_true rfl) rfl q1710
  (xv_getRN (k := 2) dX0_sumOf_50 cl_2 tg_2 in_X1 (Nat.le_of_ble_eq_true rfl) rfl q197
  (xv_iload_n dX0_sumOf_53 rfl
  (xv_iald dX0_sumOf_54
  (xv_goto dX0_sumOf_55 rfl (xv_iadd dX0_sumOf_59
  (xv_istore_n dX0_sumOf_60 rfl (Nat.le_of_ble_eq_true rfl)
  (xv_iinc dX0_sumOf_61 (Nat.le_of_ble_eq_true rfl)
  (xv_goto dX0_sumOf_64 rfl (fun _ _ _ _ h => h))))))))))))))))))
  (xv_aload_n dX0_sumOf_21 rfl
  (xv_getR (k := 3) dX0_sumOf_22 cl_1 tg_1 in_X0 (Nat.le_of_ble_eq_true rfl) rfl q1710
  (xv_getRN (k := 1) dX0_sumOf_25 cl_2 tg_2 in_X1 (Nat.le_of_ble_eq_true rfl) rfl q194
  (xv_iload_n dX0_sumOf_28 rfl
  (xv_iald dX0_sumOf_29
  (xv_goto dX0_sumOf_30 rfl (xv_iadd dX0_sumOf_59
  (xv_istore_n dX0_sumOf_60 rfl (Nat.le_of_ble_eq_true rfl)
  (xv_iinc dX0_sumOf_61 (Nat.le_of_ble_eq_true rfl)
  (xv_goto dX0_sumOf_64 rfl (fun _ _ _ _ h => h))))))))))))))))))))) l st S I h
def tr_X0_lengths_0 (d : Nat) (Rq : SmQ) (l : SmL) (st : List SmV) (S : SmS) (I : SmI) : Prop :=
  im_ic 0 l st S I fun l st S I =>
  im_istore 1 l st S I fun l st S I =>
  im_ic 0 l st S I fun l st S I =>
  im_istore 2 l st S I fun l st S I =>
  SW mi_X0_lengths 4 d Rq l st S I
theorem rv_X0_lengths_0 {d : Nat} {Rq : SmQ} {l : SmL} {st : List SmV} {S : SmS} {I : SmI} (h : tr_X0_lengths_0 d Rq l st S I) : SW mi_X0_lengths 0 d Rq l st S I :=
  (show SmW mi_X0_lengths 0 d Rq (tr_X0_lengths_0 d Rq) from
  (xv_iconst dX0_lengths_0 rfl (inRd rfl)
  (xv_istore_n dX0_lengths_1 rfl (Nat.le_of_ble_eq_true rfl)
  (xv_iconst dX0_lengths_2 rfl (inRd rfl)
  (xv_istore_n dX0_lengths_3 rfl (Nat.le_of_ble_eq_true rfl)
  (fun _ _ _ _ h => h)))))) l st S I h
def tr_X0_lengths_4 (d : Nat) (Rq : SmQ) (l : SmL) (st : List SmV) (S : SmS) (I : SmI) : Prop :=
  im_iload 2 l st S I fun l st S I =>
  im_aload 0 l st S I fun l st S I =>
  im_getR 1 3 l st S I fun l st S I =>
  im_getI 2 10 l st S I fun l st S I =>
  im_cge l st S I (fun l st S I =>
  im_iload 1 l st S I fun l st S I =>
  im_ireturn Rq l st S I) (fun l st S I =>
  im_iload 1 l st S I fun l st S I =>
  im_aload 0 l st S I fun l st S I =>
  im_getR 1 3 l st S I fun l st S I =>
  im_getR 2 6 l st S I fun l st S I =>
  im_iload 2 l st S I fun l st S I =>
  im_ald 100 l st S I fun l st S I =>
  im_iadd l st S I fun l st S I =>
  im_istore 1 l st S I fun l st S I =>
  im_iinc 2 1 l st S I fun l st S I =>
  SW mi_X0_lengths 4 d Rq l st S I)
theorem rv_X0_lengths_4 {d : Nat} {Rq : SmQ} {l : SmL} {st : List SmV} {S : SmS} {I : SmI} (h : tr_X0_lengths_4 d Rq l st S I) : SW mi_X0_lengths 4 d Rq l st S I :=
  (show SmW mi_X0_lengths 4 d Rq (tr_X0_lengths_4 d Rq) from
  (xv_iload_n dX0_lengths_4 rfl
  (xv_aload_n dX0_lengths_5 rfl
  (xv_getR (k := 3) dX0_lengths_6 cl_1 tg_1 in_X0 (Nat.le_of_ble_eq_true rfl) rfl q1710
  (xv_getIN (k := 10) dX0_lengths_9 cl_2 tg_2 in_X1 (Nat.le_of_ble_eq_true rfl) rfl q219
  (xv_cge dX0_lengths_12 rfl
  (xv_iload_n dX0_lengths_33 rfl
  (xv_ireturn dX0_lengths_34 rfl))
  (xv_iload_n dX0_lengths_15 rfl
  (xv_aload_n dX0_lengths_16 rfl
  (xv_getR (k := 3) dX0_lengths_17 cl_1 tg_1 in_X0 (Nat.le_of_ble_eq_true rfl) rfl q1710
  (xv_getRN (k := 6) dX0_lengths_20 cl_2 tg_2 in_X1 (Nat.le_of_ble_eq_true rfl) rfl q209
  (xv_iload_n dX0_lengths_23 rfl
  (xv_iald dX0_lengths_24
  (xv_iadd dX0_lengths_25
  (xv_istore_n dX0_lengths_26 rfl (Nat.le_of_ble_eq_true rfl)
  (xv_iinc dX0_lengths_27 (Nat.le_of_ble_eq_true rfl)
  (xv_goto dX0_lengths_30 rfl (fun _ _ _ _ h => h))))))))))))))))) l st S I h
def tr_X0_goes_0 (d : Nat) (Rq : SmQ) (l : SmL) (st : List SmV) (S : SmS) (I : SmI) : Prop :=
  im_aload 0 l st S I fun l st S I =>
  im_getR 2 2 l st S I fun l st S I =>
  im_aload 0 l st S I fun l st S I =>
  im_iload 1 l st S I fun l st S I =>
  im_p_X1_section d l st S I fun l st S I =>
  im_ald 100 l st S I fun l st S I =>
  im_istore 2 l st S I fun l st S I =>
  im_aload 0 l st S I fun l st S I =>
  im_getR 2 7 l st S I fun l st S I =>
  im_iload 1 l st S I fun l st S I =>
  im_dup2 l st S I fun l st S I =>
  im_ald 100 l st S I fun l st S I =>
  im_aload 0 l st S I fun l st S I =>
  im_iload 1 l st S I fun l st S I =>
  im_p_X1_way d l st S I fun l st S I =>
  im_iadd l st S I fun l st S I =>
  im_iast l st S I fun l st S I =>
  im_aload 0 l st S I fun l st S I =>
  im_getR 2 8 l st S I fun l st S I =>
  im_iload 1 l st S I fun l st S I =>
  im_ic 1 l st S I fun l st S I =>
  im_zast l st S I fun l st S I =>
  im_aload 0 l st S I fun l st S I =>
  im_getR 2 9 l st S I fun l st S I =>
  im_iload 1 l st S I fun l st S I =>
  im_aload 0 l st S I fun l st S I =>
  im_getI 2 11 l st S I fun l st S I =>
  im_iload 2 l st S I fun l st S I =>
  im_iadd l st S I fun l st S I =>
  im_iast l st S I fun l st S I =>
  im_return Rq l st S I
theorem rv_X0_goes_0 {d : Nat} {Rq : SmQ} {l : SmL} {st : List SmV} {S : SmS} {I : SmI} (h : tr_X0_goes_0 d Rq l st S I) : SW mi_X0_goes 0 d Rq l st S I :=
  (show SmW mi_X0_goes 0 d Rq (tr_X0_goes_0 d Rq) from
  (xv_aload_n dX0_goes_0 rfl
  (xv_getRN (k := 2) dX0_goes_1 cl_2 tg_2 in_X1 (Nat.le_of_ble_eq_true rfl) rfl q197
  (xv_aload_n dX0_goes_4 rfl
  (xv_iload_n dX0_goes_5 rfl
  (xv_p_X1_section dX0_goes_6 (lw_V q627 q628 q629 q105 q630)
  (xv_iald dX0_goes_9
  (xv_istore_n dX0_goes_10 rfl (Nat.le_of_ble_eq_true rfl)
  (xv_aload_n dX0_goes_11 rfl
  (xv_getRN (k := 7) dX0_goes_12 cl_2 tg_2 in_X1 (Nat.le_of_ble_eq_true rfl) rfl q211
  (xv_iload_n dX0_goes_15 rfl
  (xv_dup2 dX0_goes_16
  (xv_iald dX0_goes_17
  (xv_aload_n dX0_goes_18 rfl
  (xv_iload_n dX0_goes_19 rfl
  (xv_p_X1_way dX0_goes_20 (lw_V q673 q524 q525 q105 q526)
  (xv_iadd dX0_goes_23
  (xv_iast dX0_goes_24
  (xv_aload_n dX0_goes_25 rfl
  (xv_getRN (k := 8) dX0_goes_26 cl_2 tg_2 in_X1 (Nat.le_of_ble_eq_true rfl) rfl q213
  (xv_iload_n dX0_goes_29 rfl
  (xv_iconst dX0_goes_30 rfl (inRd rfl)
  (xv_zast dX0_goes_31
  (xv_aload_n dX0_goes_32 rfl
  (xv_getRN (k := 9) dX0_goes_33 cl_2 tg_2 in_X1 (Nat.le_of_ble_eq_true rfl) rfl q215
  (xv_iload_n dX0_goes_36 rfl
  (xv_aload_n dX0_goes_37 rfl
  (xv_getIN (k := 11) dX0_goes_38 cl_2 tg_2 in_X1 (Nat.le_of_ble_eq_true rfl) rfl q221
  (xv_iload_n dX0_goes_41 rfl
  (xv_iadd dX0_goes_42
  (xv_iast dX0_goes_43
  (xv_return dX0_goes_44 rfl)))))))))))))))))))))))))))))))) l st S I h
