/-! regions of methods, printed by gen/regions.py -/
set_option maxRecDepth 100000
/- X6_explore: cut at [0, 2, 50, 68, 70, 152, 166, 184] -/
abbrev mi_X6_explore : SmM := (yX6_explore, cX6_explore, 6, (none : Option FieldType), [])
theorem ok_X6_explore : callOk mi_X6_explore 1 := ⟨rfl, rfl, Nat.le_of_ble_eq_true rfl, by decide, by decide, by decide +kernel⟩
theorem ent_X6_explore (x : Option Nat) (x0 : Int) : entL (mL mi_X6_explore) [vR x, vI x0] = [some (vR x), some (vI x0), none, none, none, none] := rfl
/- X6_goesAlone: cut at [0, 12, 76, 90] -/
abbrev mi_X6_goesAlone : SmM := (yX6_goesAlone, cX6_goesAlone, 5, (some FieldType.boolean : Option FieldType), [])
theorem ok_X6_goesAlone : callOk mi_X6_goesAlone 1 := ⟨rfl, rfl, Nat.le_of_ble_eq_true rfl, by decide, by decide, by decide +kernel⟩
theorem ent_X6_goesAlone (x : Option Nat) (x0 : Int) : entL (mL mi_X6_goesAlone) [vR x, vI x0] = [some (vR x), some (vI x0), none, none, none] := rfl
/- X6_findSequence: cut at [0, 8, 15, 23, 51] -/
abbrev mi_X6_findSequence : SmM := (yX6_findSequence, cX6_findSequence, 3, (none : Option FieldType), [])
theorem ok_X6_findSequence : callOk mi_X6_findSequence 0 := ⟨rfl, rfl, Nat.le_of_ble_eq_true rfl, by decide, by decide, by decide +kernel⟩
theorem ent_X6_findSequence (x : Option Nat) : entL (mL mi_X6_findSequence) [vR x] = [some (vR x), none, none] := rfl
/- X6_isPlain: cut at [0, 4] -/
abbrev mi_X6_isPlain : SmM := (yX6_isPlain, cX6_isPlain, 1, (some FieldType.boolean : Option FieldType), [])
theorem ok_X6_isPlain : callOk mi_X6_isPlain 0 := ⟨rfl, rfl, Nat.le_of_ble_eq_true rfl, by decide, by decide, by decide +kernel⟩
theorem ent_X6_isPlain (x : Option Nat) : entL (mL mi_X6_isPlain) [vR x] = [some (vR x)] := rfl
/- X6_against: cut at [0, 58] -/
abbrev mi_X6_against : SmM := (yX6_against, cX6_against, 4, (some FieldType.int : Option FieldType), [])
theorem ok_X6_against : callOk mi_X6_against 1 := ⟨rfl, rfl, Nat.le_of_ble_eq_true rfl, by decide, by decide, by decide +kernel⟩
theorem ent_X6_against (x : Option Nat) (x0 : Int) : entL (mL mi_X6_against) [vR x, vI x0] = [some (vR x), some (vI x0), none, none] := rfl
/- X6_canGo: cut at [0, 8, 12, 28] -/
abbrev mi_X6_canGo : SmM := (yX6_canGo, cX6_canGo, 3, (some FieldType.int : Option FieldType), [])
theorem ok_X6_canGo : callOk mi_X6_canGo 0 := ⟨rfl, rfl, Nat.le_of_ble_eq_true rfl, by decide, by decide, by decide +kernel⟩
theorem ent_X6_canGo (x : Option Nat) : entL (mL mi_X6_canGo) [vR x] = [some (vR x), none, none] := rfl
/- X6_firstAt: cut at [0, 8, 10] -/
abbrev mi_X6_firstAt : SmM := (yX6_firstAt, cX6_firstAt, 3, (some FieldType.int : Option FieldType), [])
theorem ok_X6_firstAt : callOk mi_X6_firstAt 1 := ⟨rfl, rfl, Nat.le_of_ble_eq_true rfl, by decide, by decide, by decide +kernel⟩
theorem ent_X6_firstAt (x : Option Nat) (x0 : Int) : entL (mL mi_X6_firstAt) [vR x, vI x0] = [some (vR x), some (vI x0), none] := rfl
/- X6_isHeldAll: cut at [0, 8, 12] -/
abbrev mi_X6_isHeldAll : SmM := (yX6_isHeldAll, cX6_isHeldAll, 3, (some FieldType.boolean : Option FieldType), [])
theorem ok_X6_isHeldAll : callOk mi_X6_isHeldAll 0 := ⟨rfl, rfl, Nat.le_of_ble_eq_true rfl, by decide, by decide, by decide +kernel⟩
theorem ent_X6_isHeldAll (x : Option Nat) : entL (mL mi_X6_isHeldAll) [vR x] = [some (vR x), none, none] := rfl
/- X6_isSafeNow: cut at [0, 8] -/
abbrev mi_X6_isSafeNow : SmM := (yX6_isSafeNow, cX6_isSafeNow, 1, (some FieldType.boolean : Option FieldType), [])
theorem ok_X6_isSafeNow : callOk mi_X6_isSafeNow 0 := ⟨rfl, rfl, Nat.le_of_ble_eq_true rfl, by decide, by decide, by decide +kernel⟩
theorem ent_X6_isSafeNow (x : Option Nat) : entL (mL mi_X6_isSafeNow) [vR x] = [some (vR x)] := rfl
/- X6_goesOn: cut at [0, 14, 90, 110] -/
abbrev mi_X6_goesOn : SmM := (yX6_goesOn, cX6_goesOn, 6, (some FieldType.int : Option FieldType), [])
theorem ok_X6_goesOn : callOk mi_X6_goesOn 1 := ⟨rfl, rfl, Nat.le_of_ble_eq_true rfl, by decide, by decide, by decide +kernel⟩
theorem ent_X6_goesOn (x : Option Nat) (x0 : Int) : entL (mL mi_X6_goesOn) [vR x, vI x0] = [some (vR x), some (vI x0), none, none, none, none] := rfl
/- X6_sends: cut at [0, 7, 8, 19, 27] -/
abbrev mi_X6_sends : SmM := (yX6_sends, cX6_sends, 4, (some FieldType.int : Option FieldType), [])
theorem ok_X6_sends : callOk mi_X6_sends 1 := ⟨rfl, rfl, Nat.le_of_ble_eq_true rfl, by decide, by decide, by decide +kernel⟩
theorem ent_X6_sends (x : Option Nat) (x0 : Int) : entL (mL mi_X6_sends) [vR x, vI x0] = [some (vR x), some (vI x0), none, none] := rfl
/- X6_firstBy: cut at [0, 5, 20, 36] -/
abbrev mi_X6_firstBy : SmM := (yX6_firstBy, cX6_firstBy, 4, (some FieldType.int : Option FieldType), [])
theorem ok_X6_firstBy : callOk mi_X6_firstBy 1 := ⟨rfl, rfl, Nat.le_of_ble_eq_true rfl, by decide, by decide, by decide +kernel⟩
theorem ent_X6_firstBy (x : Option Nat) (x0 : Int) : entL (mL mi_X6_firstBy) [vR x, vI x0] = [some (vR x), some (vI x0), none, none] := rfl
/- X6_planned: cut at [0, 4, 12, 17, 20, 46, 52, 67, 123] -/
abbrev mi_X6_planned : SmM := (yX6_planned, cX6_planned, 6, (some FieldType.int : Option FieldType), [])
theorem ok_X6_planned : callOk mi_X6_planned 2 := ⟨rfl, rfl, Nat.le_of_ble_eq_true rfl, by decide, by decide, by decide +kernel⟩
theorem ent_X6_planned (x : Option Nat) (x0 : Int) (x1 : Int) : entL (mL mi_X6_planned) [vR x, vI x0, vI x1] = [some (vR x), some (vI x0), some (vI x1), none, none, none] := rfl
/- X6_plan: cut at [0, 28] -/
abbrev mi_X6_plan : SmM := (yX6_plan, cX6_plan, 3, (some FieldType.int : Option FieldType), [])
theorem ok_X6_plan : callOk mi_X6_plan 2 := ⟨rfl, rfl, Nat.le_of_ble_eq_true rfl, by decide, by decide, by decide +kernel⟩
theorem ent_X6_plan (x : Option Nat) (x0 : Int) (x1 : Int) : entL (mL mi_X6_plan) [vR x, vI x0, vI x1] = [some (vR x), some (vI x0), some (vI x1)] := rfl
/- X6_best: cut at [0, 20, 23, 34] -/
abbrev mi_X6_best : SmM := (yX6_best, cX6_best, 5, (some FieldType.int : Option FieldType), [])
theorem ok_X6_best : callOk mi_X6_best 0 := ⟨rfl, rfl, Nat.le_of_ble_eq_true rfl, by decide, by decide, by decide +kernel⟩
theorem ent_X6_best (x : Option Nat) : entL (mL mi_X6_best) [vR x] = [some (vR x), none, none, none, none] := rfl
/- X6_let: cut at [0, 18, 23, 34] -/
abbrev mi_X6_let : SmM := (yX6_let, cX6_let, 2, (some FieldType.int : Option FieldType), [])
theorem ok_X6_let : callOk mi_X6_let 1 := ⟨rfl, rfl, Nat.le_of_ble_eq_true rfl, by decide, by decide, by decide +kernel⟩
theorem ent_X6_let (x : Option Nat) (x0 : Int) : entL (mL mi_X6_let) [vR x, vI x0] = [some (vR x), some (vI x0)] := rfl
/- X6_tick: cut at [0, 17] -/
abbrev mi_X6_tick : SmM := (yX6_tick, cX6_tick, 2, (some FieldType.int : Option FieldType), [])
theorem ok_X6_tick : callOk mi_X6_tick 1 := ⟨rfl, rfl, Nat.le_of_ble_eq_true rfl, by decide, by decide, by decide +kernel⟩
theorem ent_X6_tick (x : Option Nat) (x0 : Int) : entL (mL mi_X6_tick) [vR x, vI x0] = [some (vR x), some (vI x0)] := rfl
/- X6_send: cut at [0, 22, 27] -/
abbrev mi_X6_send : SmM := (yX6_send, cX6_send, 2, (some FieldType.int : Option FieldType), [])
theorem ok_X6_send : callOk mi_X6_send 1 := ⟨rfl, rfl, Nat.le_of_ble_eq_true rfl, by decide, by decide, by decide +kernel⟩
theorem ent_X6_send (x : Option Nat) (x0 : Int) : entL (mL mi_X6_send) [vR x, vI x0] = [some (vR x), some (vI x0)] := rfl
/- X6_add: cut at [0, 114, 121, 124] -/
abbrev mi_X6_add : SmM := (yX6_add, cX6_add, 5, (some FieldType.int : Option FieldType), [])
theorem ok_X6_add : callOk mi_X6_add 3 := ⟨rfl, rfl, Nat.le_of_ble_eq_true rfl, by decide, by decide, by decide +kernel⟩
theorem ent_X6_add (x : Option Nat) (x0 : Int) (x1 : Int) (x2 : Int) : entL (mL mi_X6_add) [vR x, vI x0, vI x1, vI x2] = [some (vR x), some (vI x0), some (vI x1), some (vI x2), none] := rfl
/- X6_drop: cut at [0, 31, 85] -/
abbrev mi_X6_drop : SmM := (yX6_drop, cX6_drop, 3, (some FieldType.int : Option FieldType), [])
theorem ok_X6_drop : callOk mi_X6_drop 1 := ⟨rfl, rfl, Nat.le_of_ble_eq_true rfl, by decide, by decide, by decide +kernel⟩
theorem ent_X6_drop (x : Option Nat) (x0 : Int) : entL (mL mi_X6_drop) [vR x, vI x0] = [some (vR x), some (vI x0), none] := rfl
/- X6_draw: cut at [0, 34, 97] -/
abbrev mi_X6_draw : SmM := (yX6_draw, cX6_draw, 7, (some FieldType.int : Option FieldType), [])
theorem ok_X6_draw : callOk mi_X6_draw 2 := ⟨rfl, rfl, Nat.le_of_ble_eq_true rfl, by decide, by decide, by decide +kernel⟩
theorem ent_X6_draw (x : Option Nat) (x0 : Int) (x1 : Int) : entL (mL mi_X6_draw) [vR x, vI x0, vI x1] = [some (vR x), some (vI x0), some (vI x1), none, none, none, none] := rfl
/- X6_read: cut at [0, 27, 36, 51, 138, 185, 192] -/
abbrev mi_X6_read : SmM := (yX6_read, cX6_read, 11, (some FieldType.int : Option FieldType), [])
theorem ok_X6_read : callOk mi_X6_read 4 := ⟨rfl, rfl, Nat.le_of_ble_eq_true rfl, by decide, by decide, by decide +kernel⟩
theorem ent_X6_read (x : Option Nat) (x0 : Int) (x1 : Int) (x2 : Int) (x3 : Int) : entL (mL mi_X6_read) [vR x, vI x0, vI x1, vI x2, vI x3] = [some (vR x), some (vI x0), some (vI x1), some (vI x2), some (vI x3), none, none, none, none, none, none] := rfl
/- X6_count: cut at [0, 72, 115, 131] -/
abbrev mi_X6_count : SmM := (yX6_count, cX6_count, 2, (some FieldType.int : Option FieldType), [])
theorem ok_X6_count : callOk mi_X6_count 1 := ⟨rfl, rfl, Nat.le_of_ble_eq_true rfl, by decide, by decide, by decide +kernel⟩
theorem ent_X6_count (x : Option Nat) (x0 : Int) : entL (mL mi_X6_count) [vR x, vI x0] = [some (vR x), some (vI x0)] := rfl
/- X6_rule: cut at [0, 82, 95] -/
abbrev mi_X6_rule : SmM := (yX6_rule, cX6_rule, 2, (some FieldType.int : Option FieldType), [])
theorem ok_X6_rule : callOk mi_X6_rule 1 := ⟨rfl, rfl, Nat.le_of_ble_eq_true rfl, by decide, by decide, by decide +kernel⟩
theorem ent_X6_rule (x : Option Nat) (x0 : Int) : entL (mL mi_X6_rule) [vR x, vI x0] = [some (vR x), some (vI x0)] := rfl
/- X6_train: cut at [0] -/
abbrev mi_X6_train : SmM := (yX6_train, cX6_train, 3, (some FieldType.int : Option FieldType), [])
theorem ok_X6_train : callOk mi_X6_train 2 := ⟨rfl, rfl, Nat.le_of_ble_eq_true rfl, by decide, by decide, by decide +kernel⟩
theorem ent_X6_train (x : Option Nat) (x0 : Int) (x1 : Int) : entL (mL mi_X6_train) [vR x, vI x0, vI x1] = [some (vR x), some (vI x0), some (vI x1)] := rfl
/- X6_why: cut at [0, 18, 23] -/
abbrev mi_X6_why : SmM := (yX6_why, cX6_why, 2, (some FieldType.int : Option FieldType), [])
theorem ok_X6_why : callOk mi_X6_why 1 := ⟨rfl, rfl, Nat.le_of_ble_eq_true rfl, by decide, by decide, by decide +kernel⟩
theorem ent_X6_why (x : Option Nat) (x0 : Int) : entL (mL mi_X6_why) [vR x, vI x0] = [some (vR x), some (vI x0)] := rfl
/- X6_order: cut at [0, 10] -/
abbrev mi_X6_order : SmM := (yX6_order, cX6_order, 2, (some FieldType.int : Option FieldType), [])
theorem ok_X6_order : callOk mi_X6_order 1 := ⟨rfl, rfl, Nat.le_of_ble_eq_true rfl, by decide, by decide, by decide +kernel⟩
theorem ent_X6_order (x : Option Nat) (x0 : Int) : entL (mL mi_X6_order) [vR x, vI x0] = [some (vR x), some (vI x0)] := rfl
/- X6_reach: cut at [0, 20, 24, 51] -/
abbrev mi_X6_reach : SmM := (yX6_reach, cX6_reach, 4, (some FieldType.int : Option FieldType), [])
theorem ok_X6_reach : callOk mi_X6_reach 1 := ⟨rfl, rfl, Nat.le_of_ble_eq_true rfl, by decide, by decide, by decide +kernel⟩
theorem ent_X6_reach (x : Option Nat) (x0 : Int) : entL (mL mi_X6_reach) [vR x, vI x0] = [some (vR x), some (vI x0), none, none] := rfl
def tr_X6_explore_0 (d : Nat) (Rq : SmQ) (l : SmL) (st : List SmV) (S : SmS) (I : SmI) : Prop :=
  im_ic 0 l st S I fun l st S I =>
  im_istore 2 l st S I fun l st S I =>
  SW mi_X6_explore 2 d Rq l st S I
theorem rv_X6_explore_0 {d : Nat} {Rq : SmQ} {l : SmL} {st : List SmV} {S : SmS} {I : SmI} (h : tr_X6_explore_0 d Rq l st S I) : SW mi_X6_explore 0 d Rq l st S I :=
  (show SmW mi_X6_explore 0 d Rq (tr_X6_explore_0 d Rq) from
  (xv_iconst dX6_explore_0 rfl (inRd rfl)
  (xv_istore_n dX6_explore_1 rfl (Nat.le_of_ble_eq_true rfl)
  (fun _ _ _ _ h => h)))) l st S I h
def tr_X6_explore_2 (d : Nat) (Rq : SmQ) (l : SmL) (st : List SmV) (S : SmS) (I : SmI) : Prop :=
  im_iload 2 l st S I fun l st S I =>
  im_ic 2401 l st S I fun l st S I =>
  im_cge l st S I (fun l st S I =>
  im_aload 0 l st S I fun l st S I =>
  im_getR 11 14 l st S I fun l st S I =>
  im_ic 0 l st S I fun l st S I =>
  im_iload 1 l st S I fun l st S I =>
  im_iast l st S I fun l st S I =>
  im_aload 0 l st S I fun l st S I =>
  im_getR 11 15 l st S I fun l st S I =>
  im_iload 1 l st S I fun l st S I =>
  im_ic 1 l st S I fun l st S I =>
  im_zast l st S I fun l st S I =>
  im_aload 0 l st S I fun l st S I =>
  im_ic 1 l st S I fun l st S I =>
  im_putI 11 17 l st S I fun l st S I =>
  im_ic 0 l st S I fun l st S I =>
  im_istore 2 l st S I fun l st S I =>
  SW mi_X6_explore 50 d Rq l st S I) (fun l st S I =>
  im_aload 0 l st S I fun l st S I =>
  im_getR 11 15 l st S I fun l st S I =>
  im_iload 2 l st S I fun l st S I =>
  im_ic 0 l st S I fun l st S I =>
  im_zast l st S I fun l st S I =>
  im_aload 0 l st S I fun l st S I =>
  im_getR 11 16 l st S I fun l st S I =>
  im_iload 2 l st S I fun l st S I =>
  im_ic 0 l st S I fun l st S I =>
  im_zast l st S I fun l st S I =>
  im_iinc 2 1 l st S I fun l st S I =>
  SW mi_X6_explore 2 d Rq l st S I)
theorem rv_X6_explore_2 {d : Nat} {Rq : SmQ} {l : SmL} {st : List SmV} {S : SmS} {I : SmI} (h : tr_X6_explore_2 d Rq l st S I) : SW mi_X6_explore 2 d Rq l st S I :=
  (show SmW mi_X6_explore 2 d Rq (tr_X6_explore_2 d Rq) from
  (xv_iload_n dX6_explore_2 rfl
  (xv_sipush dX6_explore_3 rfl (inRd rfl)
  (xv_cge dX6_explore_6 rfl
  (xv_aload_n dX6_explore_29 rfl
  (xv_getR (k := 14) dX6_explore_30 cl_11 tg_11 in_X6 (Nat.le_of_ble_eq_true rfl) rfl q1876
  (xv_iconst dX6_explore_33 rfl (inRd rfl)
  (xv_iload_n dX6_explore_34 rfl
  (xv_iast dX6_explore_35
  (xv_aload_n dX6_explore_36 rfl
  (xv_getR (k := 15) dX6_explore_37 cl_11 tg_11 in_X6 (Nat.le_of_ble_eq_true rfl) rfl q1877
  (xv_iload_n dX6_explore_40 rfl
  (xv_iconst dX6_explore_41 rfl (inRd rfl)
  (xv_zast dX6_explore_42
  (xv_aload_n dX6_explore_43 rfl
  (xv_iconst dX6_explore_44 rfl (inRd rfl)
  (xv_putI (k := 17) dX6_explore_45 cl_11 tg_11 in_X6 tyX6_ok nmX6 (Nat.le_of_ble_eq_true rfl) rfl ⟨Or.inl q1879, Or.inl rfl⟩
  (xv_iconst dX6_explore_48 rfl (inRd rfl)
  (xv_istore_n dX6_explore_49 rfl (Nat.le_of_ble_eq_true rfl)
  (fun _ _ _ _ h => h))))))))))))))))
  (xv_aload_n dX6_explore_9 rfl
  (xv_getR (k := 15) dX6_explore_10 cl_11 tg_11 in_X6 (Nat.le_of_ble_eq_true rfl) rfl q1877
  (xv_iload_n dX6_explore_13 rfl
  (xv_iconst dX6_explore_14 rfl (inRd rfl)
  (xv_zast dX6_explore_15
  (xv_aload_n dX6_explore_16 rfl
  (xv_getR (k := 16) dX6_explore_17 cl_11 tg_11 in_X6 (Nat.le_of_ble_eq_true rfl) rfl q1878
  (xv_iload_n dX6_explore_20 rfl
  (xv_iconst dX6_explore_21 rfl (inRd rfl)
  (xv_zast dX6_explore_22
  (xv_iinc dX6_explore_23 (Nat.le_of_ble_eq_true rfl)
  (xv_goto dX6_explore_26 rfl (fun _ _ _ _ h => h))))))))))))))))) l st S I h
def tr_X6_explore_50 (d : Nat) (Rq : SmQ) (l : SmL) (st : List SmV) (S : SmS) (I : SmI) : Prop :=
  im_iload 2 l st S I fun l st S I =>
  im_aload 0 l st S I fun l st S I =>
  im_getI 11 17 l st S I fun l st S I =>
  im_cge l st S I (fun l st S I =>
  im_aload 0 l st S I fun l st S I =>
  im_getI 11 17 l st S I fun l st S I =>
  im_ic 1 l st S I fun l st S I =>
  im_isub l st S I fun l st S I =>
  im_istore 2 l st S I fun l st S I =>
  SW mi_X6_explore 152 d Rq l st S I) (fun l st S I =>
  im_aload 0 l st S I fun l st S I =>
  im_aload 0 l st S I fun l st S I =>
  im_getR 11 14 l st S I fun l st S I =>
  im_iload 2 l st S I fun l st S I =>
  im_ald 100 l st S I fun l st S I =>
  im_callV 1 11 mi_X6_decode d (retK mi_X6_explore 65 68 d Rq l) st S I)
theorem rv_X6_explore_50 {d : Nat} {Rq : SmQ} {l : SmL} {st : List SmV} {S : SmS} {I : SmI} (h : tr_X6_explore_50 d Rq l st S I) : SW mi_X6_explore 50 d Rq l st S I :=
  (show SmW mi_X6_explore 50 d Rq (tr_X6_explore_50 d Rq) from
  (xv_iload_n dX6_explore_50 rfl
  (xv_aload_n dX6_explore_51 rfl
  (xv_getI (k := 17) dX6_explore_52 cl_11 tg_11 in_X6 (Nat.le_of_ble_eq_true rfl) rfl q1879
  (xv_cge dX6_explore_55 rfl
  (xv_aload_n dX6_explore_145 rfl
  (xv_getI (k := 17) dX6_explore_146 cl_11 tg_11 in_X6 (Nat.le_of_ble_eq_true rfl) rfl q1879
  (xv_iconst dX6_explore_149 rfl (inRd rfl)
  (xv_isub dX6_explore_150
  (xv_istore_n dX6_explore_151 rfl (Nat.le_of_ble_eq_true rfl)
  (fun _ _ _ _ h => h))))))
  (xv_aload_n dX6_explore_58 rfl
  (xv_aload_n dX6_explore_59 rfl
  (xv_getR (k := 14) dX6_explore_60 cl_11 tg_11 in_X6 (Nat.le_of_ble_eq_true rfl) rfl q1876
  (xv_iload_n dX6_explore_63 rfl
  (xv_iald dX6_explore_64
  (xv_callV dX6_explore_65 cl_11 tg_11 ok_X6_decode rfl (lw_V q2022 q2024 qs63 q117 q2025)))))))))))) l st S I h
def tr_X6_explore_68 (d : Nat) (Rq : SmQ) (l : SmL) (st : List SmV) (S : SmS) (I : SmI) : Prop :=
  im_ic 0 l st S I fun l st S I =>
  im_istore 3 l st S I fun l st S I =>
  SW mi_X6_explore 70 d Rq l st S I
theorem rv_X6_explore_68 {d : Nat} {Rq : SmQ} {l : SmL} {st : List SmV} {S : SmS} {I : SmI} (h : tr_X6_explore_68 d Rq l st S I) : SW mi_X6_explore 68 d Rq l st S I :=
  (show SmW mi_X6_explore 68 d Rq (tr_X6_explore_68 d Rq) from
  (xv_iconst dX6_explore_68 rfl (inRd rfl)
  (xv_istore_n dX6_explore_69 rfl (Nat.le_of_ble_eq_true rfl)
  (fun _ _ _ _ h => h)))) l st S I h
def tr_X6_explore_70 (d : Nat) (Rq : SmQ) (l : SmL) (st : List SmV) (S : SmS) (I : SmI) : Prop :=
  im_iload 3 l st S I fun l st S I =>
  im_aload 0 l st S I fun l st S I =>
  im_getR 11 0 l st S I fun l st S I =>
  im_ic 1 l st S I fun l st S I =>
  im_ald 100 l st S I fun l st S I =>
  im_cge l st S I (fun l st S I =>
  im_iinc 2 1 l st S I fun l st S I =>
  SW mi_X6_explore 50 d Rq l st S I) (fun l st S I =>
  im_aload 0 l st S I fun l st S I =>
  im_iload 3 l st S I fun l st S I =>
  im_p_X6_movedBy d l st S I fun l st S I =>
  im_istore 4 l st S I fun l st S I =>
  im_iload 4 l st S I fun l st S I =>
  im_ic (-4) l st S I fun l st S I =>
  im_ceq l st S I (fun l st S I =>
  im_iinc 3 1 l st S I fun l st S I =>
  SW mi_X6_explore 70 d Rq l st S I) (fun l st S I =>
  im_aload 0 l st S I fun l st S I =>
  im_getR 11 15 l st S I fun l st S I =>
  im_iload 4 l st S I fun l st S I =>
  im_ald 102 l st S I fun l st S I =>
  im_zne l st S I (fun l st S I =>
  im_iinc 3 1 l st S I fun l st S I =>
  SW mi_X6_explore 70 d Rq l st S I) (fun l st S I =>
  im_aload 0 l st S I fun l st S I =>
  im_getR 11 15 l st S I fun l st S I =>
  im_iload 4 l st S I fun l st S I =>
  im_ic 1 l st S I fun l st S I =>
  im_zast l st S I fun l st S I =>
  im_aload 0 l st S I fun l st S I =>
  im_getR 11 14 l st S I fun l st S I =>
  im_aload 0 l st S I fun l st S I =>
  im_getI 11 17 l st S I fun l st S I =>
  im_iload 4 l st S I fun l st S I =>
  im_iast l st S I fun l st S I =>
  im_aload 0 l st S I fun l st S I =>
  im_dup l st S I fun l st S I =>
  im_getI 11 17 l st S I fun l st S I =>
  im_ic 1 l st S I fun l st S I =>
  im_iadd l st S I fun l st S I =>
  im_putI 11 17 l st S I fun l st S I =>
  im_iinc 3 1 l st S I fun l st S I =>
  SW mi_X6_explore 70 d Rq l st S I)))
theorem rv_X6_explore_70 {d : Nat} {Rq : SmQ} {l : SmL} {st : List SmV} {S : SmS} {I : SmI} (h : tr_X6_explore_70 d Rq l st S I) : SW mi_X6_explore 70 d Rq l st S I :=
  (show SmW mi_X6_explore 70 d Rq (tr_X6_explore_70 d Rq) from
  (xv_iload_n dX6_explore_70 rfl
  (xv_aload_n dX6_explore_71 rfl
  (xv_getR (k := 0) dX6_explore_72 cl_11 tg_11 in_X6 (Nat.le_of_ble_eq_true rfl) rfl q1862
  (xv_iconst dX6_explore_75 rfl (inRd rfl)
  (xv_iald dX6_explore_76
  (xv_cge dX6_explore_77 rfl
  (xv_iinc dX6_explore_139 (Nat.le_of_ble_eq_true rfl)
  (xv_goto dX6_explore_142 rfl (fun _ _ _ _ h => h)))
  (xv_aload_n dX6_explore_80 rfl
  (xv_iload_n dX6_explore_81 rfl
  (xv_p_X6_movedBy dX6_explore_82 (lw_V q2053 q2055 qs70 q117 q2056)
  (xv_istore dX6_explore_85 (Nat.le_of_ble_eq_true rfl)
  (xv_iload dX6_explore_87
  (xv_bipush dX6_explore_89 rfl (inRd rfl)
  (xv_ceq dX6_explore_91 rfl
  (xv_iinc dX6_explore_133 (Nat.le_of_ble_eq_true rfl)
  (xv_goto dX6_explore_136 rfl (fun _ _ _ _ h => h)))
  (xv_aload_n dX6_explore_94 rfl
  (xv_getR (k := 15) dX6_explore_95 cl_11 tg_11 in_X6 (Nat.le_of_ble_eq_true rfl) rfl q1877
  (xv_iload dX6_explore_98
  (xv_zald dX6_explore_100
  (xv_zne dX6_explore_101 rfl
  (xv_iinc dX6_explore_133 (Nat.le_of_ble_eq_true rfl)
  (xv_goto dX6_explore_136 rfl (fun _ _ _ _ h => h)))
  (xv_aload_n dX6_explore_104 rfl
  (xv_getR (k := 15) dX6_explore_105 cl_11 tg_11 in_X6 (Nat.le_of_ble_eq_true rfl) rfl q1877
  (xv_iload dX6_explore_108
  (xv_iconst dX6_explore_110 rfl (inRd rfl)
  (xv_zast dX6_explore_111
  (xv_aload_n dX6_explore_112 rfl
  (xv_getR (k := 14) dX6_explore_113 cl_11 tg_11 in_X6 (Nat.le_of_ble_eq_true rfl) rfl q1876
  (xv_aload_n dX6_explore_116 rfl
  (xv_getI (k := 17) dX6_explore_117 cl_11 tg_11 in_X6 (Nat.le_of_ble_eq_true rfl) rfl q1879
  (xv_iload dX6_explore_120
  (xv_iast dX6_explore_122
  (xv_aload_n dX6_explore_123 rfl
  (xv_dup dX6_explore_124
  (xv_getI (k := 17) dX6_explore_125 cl_11 tg_11 in_X6 (Nat.le_of_ble_eq_true rfl) rfl q1879
  (xv_iconst dX6_explore_128 rfl (inRd rfl)
  (xv_iadd dX6_explore_129
  (xv_putI (k := 17) dX6_explore_130 cl_11 tg_11 in_X6 tyX6_ok nmX6 (Nat.le_of_ble_eq_true rfl) rfl ⟨Or.inl q1879, Or.inl rfl⟩
  (xv_iinc dX6_explore_133 (Nat.le_of_ble_eq_true rfl)
  (xv_goto dX6_explore_136 rfl (fun _ _ _ _ h => h))))))))))))))))))))))))))))))))))))))) l st S I h
def tr_X6_explore_152 (d : Nat) (Rq : SmQ) (l : SmL) (st : List SmV) (S : SmS) (I : SmI) : Prop :=
  im_iload 2 l st S I fun l st S I =>
  im_zlt l st S I (fun l st S I =>
  im_return Rq l st S I) (fun l st S I =>
  im_aload 0 l st S I fun l st S I =>
  im_aload 0 l st S I fun l st S I =>
  im_getR 11 14 l st S I fun l st S I =>
  im_iload 2 l st S I fun l st S I =>
  im_ald 100 l st S I fun l st S I =>
  im_callV 1 11 mi_X6_decode d (retK mi_X6_explore 163 166 d Rq l) st S I)
theorem rv_X6_explore_152 {d : Nat} {Rq : SmQ} {l : SmL} {st : List SmV} {S : SmS} {I : SmI} (h : tr_X6_explore_152 d Rq l st S I) : SW mi_X6_explore 152 d Rq l st S I :=
  (show SmW mi_X6_explore 152 d Rq (tr_X6_explore_152 d Rq) from
  (xv_iload_n dX6_explore_152 rfl
  (xv_zlt dX6_explore_153 rfl
  (xv_return dX6_explore_254 rfl)
  (xv_aload_n dX6_explore_156 rfl
  (xv_aload_n dX6_explore_157 rfl
  (xv_getR (k := 14) dX6_explore_158 cl_11 tg_11 in_X6 (Nat.le_of_ble_eq_true rfl) rfl q1876
  (xv_iload_n dX6_explore_161 rfl
  (xv_iald dX6_explore_162
  (xv_callV dX6_explore_163 cl_11 tg_11 ok_X6_decode rfl (lw_V q2022 q2024 qs63 q117 q2025)))))))))) l st S I h
def tr_X6_explore_166 (d : Nat) (Rq : SmQ) (l : SmL) (st : List SmV) (S : SmS) (I : SmI) : Prop :=
  im_aload 0 l st S I fun l st S I =>
  im_getR 11 14 l st S I fun l st S I =>
  im_iload 2 l st S I fun l st S I =>
  im_ald 100 l st S I fun l st S I =>
  im_zne l st S I (fun l st S I =>
  im_ic 0 l st S I fun l st S I =>
  im_istore 3 l st S I fun l st S I =>
  im_ic 0 l st S I fun l st S I =>
  im_istore 4 l st S I fun l st S I =>
  SW mi_X6_explore 184 d Rq l st S I) (fun l st S I =>
  im_ic 1 l st S I fun l st S I =>
  im_istore 3 l st S I fun l st S I =>
  im_ic 0 l st S I fun l st S I =>
  im_istore 4 l st S I fun l st S I =>
  SW mi_X6_explore 184 d Rq l st S I)
theorem rv_X6_explore_166 {d : Nat} {Rq : SmQ} {l : SmL} {st : List SmV} {S : SmS} {I : SmI} (h : tr_X6_explore_166 d Rq l st S I) : SW mi_X6_explore 166 d Rq l st S I :=
  (show SmW mi_X6_explore 166 d Rq (tr_X6_explore_166 d Rq) from
  (xv_aload_n dX6_explore_166 rfl
  (xv_getR (k := 14) dX6_explore_167 cl_11 tg_11 in_X6 (Nat.le_of_ble_eq_true rfl) rfl q1876
  (xv_iload_n dX6_explore_170 rfl
  (xv_iald dX6_explore_171
  (xv_zne dX6_explore_172 rfl
  (xv_iconst dX6_explore_179 rfl (inRd rfl)
  (xv_istore_n dX6_explore_180 rfl (Nat.le_of_ble_eq_true rfl)
  (xv_iconst dX6_explore_181 rfl (inRd rfl)
  (xv_istore dX6_explore_182 (Nat.le_of_ble_eq_true rfl)
  (fun _ _ _ _ h => h)))))
  (xv_iconst dX6_explore_175 rfl (inRd rfl)
  (xv_goto dX6_explore_176 rfl (xv_istore_n dX6_explore_180 rfl (Nat.le_of_ble_eq_true rfl)
  (xv_iconst dX6_explore_181 rfl (inRd rfl)
  (xv_istore dX6_explore_182 (Nat.le_of_ble_eq_true rfl)
  (fun _ _ _ _ h => h)))))))))))) l st S I h
def tr_X6_explore_184 (d : Nat) (Rq : SmQ) (l : SmL) (st : List SmV) (S : SmS) (I : SmI) : Prop :=
  im_iload 4 l st S I fun l st S I =>
  im_aload 0 l st S I fun l st S I =>
  im_getR 11 0 l st S I fun l st S I =>
  im_ic 1 l st S I fun l st S I =>
  im_ald 100 l st S I fun l st S I =>
  im_cge l st S I (fun l st S I =>
  im_aload 0 l st S I fun l st S I =>
  im_getR 11 16 l st S I fun l st S I =>
  im_aload 0 l st S I fun l st S I =>
  im_getR 11 14 l st S I fun l st S I =>
  im_iload 2 l st S I fun l st S I =>
  im_ald 100 l st S I fun l st S I =>
  im_iload 3 l st S I fun l st S I =>
  im_zast l st S I fun l st S I =>
  im_iinc 2 (-1) l st S I fun l st S I =>
  SW mi_X6_explore 152 d Rq l st S I) (fun l st S I =>
  im_aload 0 l st S I fun l st S I =>
  im_iload 4 l st S I fun l st S I =>
  im_p_X6_movedBy d l st S I fun l st S I =>
  im_istore 5 l st S I fun l st S I =>
  im_iload 3 l st S I fun l st S I =>
  im_zne l st S I (fun l st S I =>
  im_ic 1 l st S I fun l st S I =>
  im_istore 3 l st S I fun l st S I =>
  im_iinc 4 1 l st S I fun l st S I =>
  SW mi_X6_explore 184 d Rq l st S I) (fun l st S I =>
  im_iload 5 l st S I fun l st S I =>
  im_ic (-4) l st S I fun l st S I =>
  im_ceq l st S I (fun l st S I =>
  im_ic 0 l st S I fun l st S I =>
  im_istore 3 l st S I fun l st S I =>
  im_iinc 4 1 l st S I fun l st S I =>
  SW mi_X6_explore 184 d Rq l st S I) (fun l st S I =>
  im_aload 0 l st S I fun l st S I =>
  im_getR 11 16 l st S I fun l st S I =>
  im_iload 5 l st S I fun l st S I =>
  im_ald 102 l st S I fun l st S I =>
  im_zeq l st S I (fun l st S I =>
  im_ic 0 l st S I fun l st S I =>
  im_istore 3 l st S I fun l st S I =>
  im_iinc 4 1 l st S I fun l st S I =>
  SW mi_X6_explore 184 d Rq l st S I) (fun l st S I =>
  im_ic 1 l st S I fun l st S I =>
  im_istore 3 l st S I fun l st S I =>
  im_iinc 4 1 l st S I fun l st S I =>
  SW mi_X6_explore 184 d Rq l st S I))))
theorem rv_X6_explore_184 {d : Nat} {Rq : SmQ} {l : SmL} {st : List SmV} {S : SmS} {I : SmI} (h : tr_X6_explore_184 d Rq l st S I) : SW mi_X6_explore 184 d Rq l st S I :=
  (show SmW mi_X6_explore 184 d Rq (tr_X6_explore_184 d Rq) from
  (xv_iload dX6_explore_184
  (xv_aload_n dX6_explore_186 rfl
  (xv_getR (k := 0) dX6_explore_187 cl_11 tg_11 in_X6 (Nat.le_of_ble_eq_true rfl) rfl q1862
  (xv_iconst dX6_explore_190 rfl (inRd rfl)
  (xv_iald dX6_explore_191
  (xv_cge dX6_explore_192 rfl
  (xv_aload_n dX6_explore_236 rfl
  (xv_getR (k := 16) dX6_explore_237 cl_11 tg_11 in_X6 (Nat.le_of_ble_eq_true rfl) rfl q1878
  (xv_aload_n dX6_explore_240 rfl
  (xv_getR (k := 14) dX6_explore_241 cl_11 tg_11 in_X6 (Nat.le_of_ble_eq_true rfl) rfl q1876
  (xv_iload_n dX6_explore_244 rfl
  (xv_iald dX6_explore_245
  (xv_iload_n dX6_explore_246 rfl
  (xv_zast dX6_explore_247
  (xv_iinc dX6_explore_248 (Nat.le_of_ble_eq_true rfl)
  (xv_goto dX6_explore_251 rfl (fun _ _ _ _ h => h)))))))))))
  (xv_aload_n dX6_explore_195 rfl
  (xv_iload dX6_explore_196
  (xv_p_X6_movedBy dX6_explore_198 (lw_V q2053 q2055 qs70 q117 q2056)
  (xv_istore dX6_explore_201 (Nat.le_of_ble_eq_true rfl)
  (xv_iload_n dX6_explore_203 rfl
  (xv_zne dX6_explore_204 rfl
  (xv_iconst dX6_explore_224 rfl (inRd rfl)
  (xv_goto dX6_explore_225 rfl (xv_istore_n dX6_explore_229 rfl (Nat.le_of_ble_eq_true rfl)
  (xv_iinc dX6_explore_230 (Nat.le_of_ble_eq_true rfl)
  (xv_goto dX6_explore_233 rfl (fun _ _ _ _ h => h))))))
  (xv_iload dX6_explore_207
  (xv_bipush dX6_explore_209 rfl (inRd rfl)
  (xv_ceq dX6_explore_211 rfl
  (xv_iconst dX6_explore_228 rfl (inRd rfl)
  (xv_istore_n dX6_explore_229 rfl (Nat.le_of_ble_eq_true rfl)
  (xv_iinc dX6_explore_230 (Nat.le_of_ble_eq_true rfl)
  (xv_goto dX6_explore_233 rfl (fun _ _ _ _ h => h)))))
  (xv_aload_n dX6_explore_214 rfl
  (xv_getR (k := 16) dX6_explore_215 cl_11 tg_11 in_X6 (Nat.le_of_ble_eq_true rfl) rfl q1878
  (xv_iload dX6_explore_218
  (xv_zald dX6_explore_220
  (xv_zeq dX6_explore_221 rfl
  (xv_iconst dX6_explore_228 rfl (inRd rfl)
  (xv_istore_n dX6_explore_229 rfl (Nat.le_of_ble_eq_true rfl)
  (xv_iinc dX6_explore_230 (Nat.le_of_ble_eq_true rfl)
  (xv_goto dX6_explore_233 rfl (fun _ _ _ _ h => h)))))
  (xv_iconst dX6_explore_224 rfl (inRd rfl)
  (xv_goto dX6_explore_225 rfl (xv_istore_n dX6_explore_229 rfl (Nat.le_of_ble_eq_true rfl)
  (xv_iinc dX6_explore_230 (Nat.le_of_ble_eq_true rfl)
  (xv_goto dX6_explore_233 rfl (fun _ _ _ _ h => h))))))))))))))))))))))))))) l st S I h
def tr_X6_goesAlone_0 (d : Nat) (Rq : SmQ) (l : SmL) (st : List SmV) (S : SmS) (I : SmI) : Prop :=
  im_aload 0 l st S I fun l st S I =>
  im_getR 11 13 l st S I fun l st S I =>
  im_iload 1 l st S I fun l st S I =>
  im_ald 100 l st S I fun l st S I =>
  im_istore 2 l st S I fun l st S I =>
  im_ic 0 l st S I fun l st S I =>
  im_istore 3 l st S I fun l st S I =>
  im_ic 0 l st S I fun l st S I =>
  im_istore 4 l st S I fun l st S I =>
  SW mi_X6_goesAlone 12 d Rq l st S I
theorem rv_X6_goesAlone_0 {d : Nat} {Rq : SmQ} {l : SmL} {st : List SmV} {S : SmS} {I : SmI} (h : tr_X6_goesAlone_0 d Rq l st S I) : SW mi_X6_goesAlone 0 d Rq l st S I :=
  (show SmW mi_X6_goesAlone 0 d Rq (tr_X6_goesAlone_0 d Rq) from
  (xv_aload_n dX6_goesAlone_0 rfl
  (xv_getR (k := 13) dX6_goesAlone_1 cl_11 tg_11 in_X6 (Nat.le_of_ble_eq_true rfl) rfl q1875
  (xv_iload_n dX6_goesAlone_4 rfl
  (xv_iald dX6_goesAlone_5
  (xv_istore_n dX6_goesAlone_6 rfl (Nat.le_of_ble_eq_true rfl)
  (xv_iconst dX6_goesAlone_7 rfl (inRd rfl)
  (xv_istore_n dX6_goesAlone_8 rfl (Nat.le_of_ble_eq_true rfl)
  (xv_iconst dX6_goesAlone_9 rfl (inRd rfl)
  (xv_istore dX6_goesAlone_10 (Nat.le_of_ble_eq_true rfl)
  (fun _ _ _ _ h => h))))))))))) l st S I h
def tr_X6_goesAlone_12 (d : Nat) (Rq : SmQ) (l : SmL) (st : List SmV) (S : SmS) (I : SmI) : Prop :=
  im_iload 4 l st S I fun l st S I =>
  im_ic 6 l st S I fun l st S I =>
  im_cge l st S I (fun l st S I =>
  SW mi_X6_goesAlone 76 d Rq l st S I) (fun l st S I =>
  im_aload 0 l st S I fun l st S I =>
  im_getR 11 13 l st S I fun l st S I =>
  im_iload 1 l st S I fun l st S I =>
  im_ald 100 l st S I fun l st S I =>
  im_zle l st S I (fun l st S I =>
  SW mi_X6_goesAlone 76 d Rq l st S I) (fun l st S I =>
  im_iload 3 l st S I fun l st S I =>
  im_ic (-4) l st S I fun l st S I =>
  im_ceq l st S I (fun l st S I =>
  SW mi_X6_goesAlone 76 d Rq l st S I) (fun l st S I =>
  im_aload 0 l st S I fun l st S I =>
  im_iload 1 l st S I fun l st S I =>
  im_p_X6_movedBy d l st S I fun l st S I =>
  im_istore 3 l st S I fun l st S I =>
  im_aload 0 l st S I fun l st S I =>
  im_getR 11 13 l st S I fun l st S I =>
  im_iload 1 l st S I fun l st S I =>
  im_iload 3 l st S I fun l st S I =>
  im_ic (-4) l st S I fun l st S I =>
  im_cne l st S I (fun l st S I =>
  im_iload 3 l st S I fun l st S I =>
  im_iload 1 l st S I fun l st S I =>
  im_p_X6_weightOf d l st S I fun l st S I =>
  im_idiv l st S I fun l st S I =>
  im_ic 7 l st S I fun l st S I =>
  im_irem l st S I fun l st S I =>
  im_iast l st S I fun l st S I =>
  im_iinc 4 1 l st S I fun l st S I =>
  SW mi_X6_goesAlone 12 d Rq l st S I) (fun l st S I =>
  im_aload 0 l st S I fun l st S I =>
  im_getR 11 13 l st S I fun l st S I =>
  im_iload 1 l st S I fun l st S I =>
  im_ald 100 l st S I fun l st S I =>
  im_iast l st S I fun l st S I =>
  im_iinc 4 1 l st S I fun l st S I =>
  SW mi_X6_goesAlone 12 d Rq l st S I))))
theorem rv_X6_goesAlone_12 {d : Nat} {Rq : SmQ} {l : SmL} {st : List SmV} {S : SmS} {I : SmI} (h : tr_X6_goesAlone_12 d Rq l st S I) : SW mi_X6_goesAlone 12 d Rq l st S I :=
  (show SmW mi_X6_goesAlone 12 d Rq (tr_X6_goesAlone_12 d Rq) from
  (xv_iload dX6_goesAlone_12
  (xv_bipush dX6_goesAlone_14 rfl (inRd rfl)
  (xv_cge dX6_goesAlone_16 rfl
  (fun _ _ _ _ h => h)
  (xv_aload_n dX6_goesAlone_19 rfl
  (xv_getR (k := 13) dX6_goesAlone_20 cl_11 tg_11 in_X6 (Nat.le_of_ble_eq_true rfl) rfl q1875
  (xv_iload_n dX6_goesAlone_23 rfl
  (xv_iald dX6_goesAlone_24
  (xv_zle dX6_goesAlone_25 rfl
  (fun _ _ _ _ h => h)
  (xv_iload_n dX6_goesAlone_28 rfl
  (xv_bipush dX6_goesAlone_29 rfl (inRd rfl)
  (xv_ceq dX6_goesAlone_31 rfl
  (fun _ _ _ _ h => h)
  (xv_aload_n dX6_goesAlone_34 rfl
  (xv_iload_n dX6_goesAlone_35 rfl
  (xv_p_X6_movedBy dX6_goesAlone_36 (lw_V q2053 q2055 qs70 q117 q2056)
  (xv_istore_n dX6_goesAlone_39 rfl (Nat.le_of_ble_eq_true rfl)
  (xv_aload_n dX6_goesAlone_40 rfl
  (xv_getR (k := 13) dX6_goesAlone_41 cl_11 tg_11 in_X6 (Nat.le_of_ble_eq_true rfl) rfl q1875
  (xv_iload_n dX6_goesAlone_44 rfl
  (xv_iload_n dX6_goesAlone_45 rfl
  (xv_bipush dX6_goesAlone_46 rfl (inRd rfl)
  (xv_cne dX6_goesAlone_48 rfl
  (xv_iload_n dX6_goesAlone_60 rfl
  (xv_iload_n dX6_goesAlone_61 rfl
  (xv_p_X6_weightOf dX6_goesAlone_62 (lw_S q2019 q2020 q117 q2021)
  (xv_idiv dX6_goesAlone_65
  (xv_bipush dX6_goesAlone_66 rfl (inRd rfl)
  (xv_irem dX6_goesAlone_68
  (xv_iast dX6_goesAlone_69
  (xv_iinc dX6_goesAlone_70 (Nat.le_of_ble_eq_true rfl)
  (xv_goto dX6_goesAlone_73 rfl (fun _ _ _ _ h => h))))))))))
  (xv_aload_n dX6_goesAlone_51 rfl
  (xv_getR (k := 13) dX6_goesAlone_52 cl_11 tg_11 in_X6 (Nat.le_of_ble_eq_true rfl) rfl q1875
  (xv_iload_n dX6_goesAlone_55 rfl
  (xv_iald dX6_goesAlone_56
  (xv_goto dX6_goesAlone_57 rfl (xv_iast dX6_goesAlone_69
  (xv_iinc dX6_goesAlone_70 (Nat.le_of_ble_eq_true rfl)
  (xv_goto dX6_goesAlone_73 rfl (fun _ _ _ _ h => h))))))))))))))))))))))))))))))) l st S I h
def tr_X6_goesAlone_76 (d : Nat) (Rq : SmQ) (l : SmL) (st : List SmV) (S : SmS) (I : SmI) : Prop :=
  im_aload 0 l st S I fun l st S I =>
  im_getR 11 13 l st S I fun l st S I =>
  im_iload 1 l st S I fun l st S I =>
  im_ald 100 l st S I fun l st S I =>
  im_zne l st S I (fun l st S I =>
  im_ic 0 l st S I fun l st S I =>
  SW mi_X6_goesAlone 90 d Rq l st S I) (fun l st S I =>
  im_ic 1 l st S I fun l st S I =>
  SW mi_X6_goesAlone 90 d Rq l st S I)
theorem rv_X6_goesAlone_76 {d : Nat} {Rq : SmQ} {l : SmL} {st : List SmV} {S : SmS} {I : SmI} (h : tr_X6_goesAlone_76 d Rq l st S I) : SW mi_X6_goesAlone 76 d Rq l st S I :=
  (show SmW mi_X6_goesAlone 76 d Rq (tr_X6_goesAlone_76 d Rq) from
  (xv_aload_n dX6_goesAlone_76 rfl
  (xv_getR (k := 13) dX6_goesAlone_77 cl_11 tg_11 in_X6 (Nat.le_of_ble_eq_true rfl) rfl q1875
  (xv_iload_n dX6_goesAlone_80 rfl
  (xv_iald dX6_goesAlone_81
  (xv_zne dX6_goesAlone_82 rfl
  (xv_iconst dX6_goesAlone_89 rfl (inRd rfl)
  (fun _ _ _ _ h => h))
  (xv_iconst dX6_goesAlone_85 rfl (inRd rfl)
  (xv_goto dX6_goesAlone_86 rfl (fun _ _ _ _ h => h))))))))) l st S I h
def tr_X6_goesAlone_90 (d : Nat) (Rq : SmQ) (l : SmL) (st : List SmV) (S : SmS) (I : SmI) : Prop :=
  im_istore 4 l st S I fun l st S I =>
  im_aload 0 l st S I fun l st S I =>
  im_getR 11 13 l st S I fun l st S I =>
  im_iload 1 l st S I fun l st S I =>
  im_iload 4 l st S I fun l st S I =>
  im_zeq l st S I (fun l st S I =>
  im_iload 2 l st S I fun l st S I =>
  im_iast l st S I fun l st S I =>
  im_iload 4 l st S I fun l st S I =>
  im_zreturn Rq l st S I) (fun l st S I =>
  im_ic 0 l st S I fun l st S I =>
  im_iast l st S I fun l st S I =>
  im_iload 4 l st S I fun l st S I =>
  im_zreturn Rq l st S I)
theorem rv_X6_goesAlone_90 {d : Nat} {Rq : SmQ} {l : SmL} {st : List SmV} {S : SmS} {I : SmI} (h : tr_X6_goesAlone_90 d Rq l st S I) : SW mi_X6_goesAlone 90 d Rq l st S I :=
  (show SmW mi_X6_goesAlone 90 d Rq (tr_X6_goesAlone_90 d Rq) from
  (xv_istore dX6_goesAlone_90 (Nat.le_of_ble_eq_true rfl)
  (xv_aload_n dX6_goesAlone_92 rfl
  (xv_getR (k := 13) dX6_goesAlone_93 cl_11 tg_11 in_X6 (Nat.le_of_ble_eq_true rfl) rfl q1875
  (xv_iload_n dX6_goesAlone_96 rfl
  (xv_iload dX6_goesAlone_97
  (xv_zeq dX6_goesAlone_99 rfl
  (xv_iload_n dX6_goesAlone_106 rfl
  (xv_iast dX6_goesAlone_107
  (xv_iload dX6_goesAlone_108
  (xv_zreturn dX6_goesAlone_110 rfl))))
  (xv_iconst dX6_goesAlone_102 rfl (inRd rfl)
  (xv_goto dX6_goesAlone_103 rfl (xv_iast dX6_goesAlone_107
  (xv_iload dX6_goesAlone_108
  (xv_zreturn dX6_goesAlone_110 rfl)))))))))))) l st S I h
def tr_X6_findSequence_0 (d : Nat) (Rq : SmQ) (l : SmL) (st : List SmV) (S : SmS) (I : SmI) : Prop :=
  im_aload 0 l st S I fun l st S I =>
  im_aload 0 l st S I fun l st S I =>
  im_p_X6_postureNow d l st S I fun l st S I =>
  im_callV 1 11 mi_X6_decode d (retK mi_X6_findSequence 5 8 d Rq l) st S I
theorem rv_X6_findSequence_0 {d : Nat} {Rq : SmQ} {l : SmL} {st : List SmV} {S : SmS} {I : SmI} (h : tr_X6_findSequence_0 d Rq l st S I) : SW mi_X6_findSequence 0 d Rq l st S I :=
  (show SmW mi_X6_findSequence 0 d Rq (tr_X6_findSequence_0 d Rq) from
  (xv_aload_n dX6_findSequence_0 rfl
  (xv_aload_n dX6_findSequence_1 rfl
  (xv_p_X6_postureNow dX6_findSequence_2 (lw_V q2011 q2013 qs61 q117 q2014)
  (xv_callV dX6_findSequence_5 cl_11 tg_11 ok_X6_decode rfl (lw_V q2022 q2024 qs63 q117 q2025)))))) l st S I h
def tr_X6_findSequence_8 (d : Nat) (Rq : SmQ) (l : SmL) (st : List SmV) (S : SmS) (I : SmI) : Prop :=
  im_aload 0 l st S I fun l st S I =>
  im_ic 0 l st S I fun l st S I =>
  im_putI 11 19 l st S I fun l st S I =>
  im_ic 1 l st S I fun l st S I =>
  im_istore 1 l st S I fun l st S I =>
  SW mi_X6_findSequence 15 d Rq l st S I
theorem rv_X6_findSequence_8 {d : Nat} {Rq : SmQ} {l : SmL} {st : List SmV} {S : SmS} {I : SmI} (h : tr_X6_findSequence_8 d Rq l st S I) : SW mi_X6_findSequence 8 d Rq l st S I :=
  (show SmW mi_X6_findSequence 8 d Rq (tr_X6_findSequence_8 d Rq) from
  (xv_aload_n dX6_findSequence_8 rfl
  (xv_iconst dX6_findSequence_9 rfl (inRd rfl)
  (xv_putI (k := 19) dX6_findSequence_10 cl_11 tg_11 in_X6 tyX6_ok nmX6 (Nat.le_of_ble_eq_true rfl) rfl ⟨Or.inl q1881, Or.inl rfl⟩
  (xv_iconst dX6_findSequence_13 rfl (inRd rfl)
  (xv_istore_n dX6_findSequence_14 rfl (Nat.le_of_ble_eq_true rfl)
  (fun _ _ _ _ h => h))))))) l st S I h
def tr_X6_findSequence_15 (d : Nat) (Rq : SmQ) (l : SmL) (st : List SmV) (S : SmS) (I : SmI) : Prop :=
  im_iload 1 l st S I fun l st S I =>
  im_zeq l st S I (fun l st S I =>
  im_return Rq l st S I) (fun l st S I =>
  im_ic 0 l st S I fun l st S I =>
  im_istore 1 l st S I fun l st S I =>
  im_ic 0 l st S I fun l st S I =>
  im_istore 2 l st S I fun l st S I =>
  SW mi_X6_findSequence 23 d Rq l st S I)
theorem rv_X6_findSequence_15 {d : Nat} {Rq : SmQ} {l : SmL} {st : List SmV} {S : SmS} {I : SmI} (h : tr_X6_findSequence_15 d Rq l st S I) : SW mi_X6_findSequence 15 d Rq l st S I :=
  (show SmW mi_X6_findSequence 15 d Rq (tr_X6_findSequence_15 d Rq) from
  (xv_iload_n dX6_findSequence_15 rfl
  (xv_zeq dX6_findSequence_16 rfl
  (xv_return dX6_findSequence_85 rfl)
  (xv_iconst dX6_findSequence_19 rfl (inRd rfl)
  (xv_istore_n dX6_findSequence_20 rfl (Nat.le_of_ble_eq_true rfl)
  (xv_iconst dX6_findSequence_21 rfl (inRd rfl)
  (xv_istore_n dX6_findSequence_22 rfl (Nat.le_of_ble_eq_true rfl)
  (fun _ _ _ _ h => h)))))))) l st S I h
def tr_X6_findSequence_23 (d : Nat) (Rq : SmQ) (l : SmL) (st : List SmV) (S : SmS) (I : SmI) : Prop :=
  im_iload 2 l st S I fun l st S I =>
  im_aload 0 l st S I fun l st S I =>
  im_getR 11 0 l st S I fun l st S I =>
  im_ic 1 l st S I fun l st S I =>
  im_ald 100 l st S I fun l st S I =>
  im_cge l st S I (fun l st S I =>
  SW mi_X6_findSequence 15 d Rq l st S I) (fun l st S I =>
  im_iload 1 l st S I fun l st S I =>
  im_zne l st S I (fun l st S I =>
  SW mi_X6_findSequence 15 d Rq l st S I) (fun l st S I =>
  im_aload 0 l st S I fun l st S I =>
  im_getR 11 13 l st S I fun l st S I =>
  im_iload 2 l st S I fun l st S I =>
  im_ald 100 l st S I fun l st S I =>
  im_zle l st S I (fun l st S I =>
  im_iinc 2 1 l st S I fun l st S I =>
  SW mi_X6_findSequence 23 d Rq l st S I) (fun l st S I =>
  im_aload 0 l st S I fun l st S I =>
  im_iload 2 l st S I fun l st S I =>
  im_callV 1 11 mi_X6_goesAlone d (retK mi_X6_findSequence 48 51 d Rq l) st S I)))
theorem rv_X6_findSequence_23 {d : Nat} {Rq : SmQ} {l : SmL} {st : List SmV} {S : SmS} {I : SmI} (h : tr_X6_findSequence_23 d Rq l st S I) : SW mi_X6_findSequence 23 d Rq l st S I :=
  (show SmW mi_X6_findSequence 23 d Rq (tr_X6_findSequence_23 d Rq) from
  (xv_iload_n dX6_findSequence_23 rfl
  (xv_aload_n dX6_findSequence_24 rfl
  (xv_getR (k := 0) dX6_findSequence_25 cl_11 tg_11 in_X6 (Nat.le_of_ble_eq_true rfl) rfl q1862
  (xv_iconst dX6_findSequence_28 rfl (inRd rfl)
  (xv_iald dX6_findSequence_29
  (xv_cge dX6_findSequence_30 rfl
  (xv_goto dX6_findSequence_82 rfl (fun _ _ _ _ h => h))
  (xv_iload_n dX6_findSequence_33 rfl
  (xv_zne dX6_findSequence_34 rfl
  (xv_goto dX6_findSequence_82 rfl (fun _ _ _ _ h => h))
  (xv_aload_n dX6_findSequence_37 rfl
  (xv_getR (k := 13) dX6_findSequence_38 cl_11 tg_11 in_X6 (Nat.le_of_ble_eq_true rfl) rfl q1875
  (xv_iload_n dX6_findSequence_41 rfl
  (xv_iald dX6_findSequence_42
  (xv_zle dX6_findSequence_43 rfl
  (xv_iinc dX6_findSequence_76 (Nat.le_of_ble_eq_true rfl)
  (xv_goto dX6_findSequence_79 rfl (fun _ _ _ _ h => h)))
  (xv_aload_n dX6_findSequence_46 rfl
  (xv_iload_n dX6_findSequence_47 rfl
  (xv_callV dX6_findSequence_48 cl_11 tg_11 ok_X6_goesAlone rfl (lw_V q2089 q2091 qs77 q117 q2092)))))))))))))))))) l st S I h
def tr_X6_findSequence_51 (d : Nat) (Rq : SmQ) (l : SmL) (st : List SmV) (S : SmS) (I : SmI) : Prop :=
  im_zeq l st S I (fun l st S I =>
  im_iinc 2 1 l st S I fun l st S I =>
  SW mi_X6_findSequence 23 d Rq l st S I) (fun l st S I =>
  im_aload 0 l st S I fun l st S I =>
  im_getR 11 18 l st S I fun l st S I =>
  im_aload 0 l st S I fun l st S I =>
  im_getI 11 19 l st S I fun l st S I =>
  im_iload 2 l st S I fun l st S I =>
  im_iast l st S I fun l st S I =>
  im_aload 0 l st S I fun l st S I =>
  im_dup l st S I fun l st S I =>
  im_getI 11 19 l st S I fun l st S I =>
  im_ic 1 l st S I fun l st S I =>
  im_iadd l st S I fun l st S I =>
  im_putI 11 19 l st S I fun l st S I =>
  im_ic 1 l st S I fun l st S I =>
  im_istore 1 l st S I fun l st S I =>
  im_iinc 2 1 l st S I fun l st S I =>
  SW mi_X6_findSequence 23 d Rq l st S I)
theorem rv_X6_findSequence_51 {d : Nat} {Rq : SmQ} {l : SmL} {st : List SmV} {S : SmS} {I : SmI} (h : tr_X6_findSequence_51 d Rq l st S I) : SW mi_X6_findSequence 51 d Rq l st S I :=
  (show SmW mi_X6_findSequence 51 d Rq (tr_X6_findSequence_51 d Rq) from
  (xv_zeq dX6_findSequence_51 rfl
  (xv_iinc dX6_findSequence_76 (Nat.le_of_ble_eq_true rfl)
  (xv_goto dX6_findSequence_79 rfl (fun _ _ _ _ h => h)))
  (xv_aload_n dX6_findSequence_54 rfl
  (xv_getR (k := 18) dX6_findSequence_55 cl_11 tg_11 in_X6 (Nat.le_of_ble_eq_true rfl) rfl q1880
  (xv_aload_n dX6_findSequence_58 rfl
  (xv_getI (k := 19) dX6_findSequence_59 cl_11 tg_11 in_X6 (Nat.le_of_ble_eq_true rfl) rfl q1881
  (xv_iload_n dX6_findSequence_62 rfl
  (xv_iast dX6_findSequence_63
  (xv_aload_n dX6_findSequence_64 rfl
  (xv_dup dX6_findSequence_65
  (xv_getI (k := 19) dX6_findSequence_66 cl_11 tg_11 in_X6 (Nat.le_of_ble_eq_true rfl) rfl q1881
  (xv_iconst dX6_findSequence_69 rfl (inRd rfl)
  (xv_iadd dX6_findSequence_70
  (xv_putI (k := 19) dX6_findSequence_71 cl_11 tg_11 in_X6 tyX6_ok nmX6 (Nat.le_of_ble_eq_true rfl) rfl ⟨Or.inl q1881, Or.inl rfl⟩
  (xv_iconst dX6_findSequence_74 rfl (inRd rfl)
  (xv_istore_n dX6_findSequence_75 rfl (Nat.le_of_ble_eq_true rfl)
  (xv_iinc dX6_findSequence_76 (Nat.le_of_ble_eq_true rfl)
  (xv_goto dX6_findSequence_79 rfl (fun _ _ _ _ h => h))))))))))))))))))) l st S I h
def tr_X6_isPlain_0 (d : Nat) (Rq : SmQ) (l : SmL) (st : List SmV) (S : SmS) (I : SmI) : Prop :=
  im_aload 0 l st S I fun l st S I =>
  im_callV 0 11 mi_X6_findSequence d (retK mi_X6_isPlain 1 4 d Rq l) st S I
theorem rv_X6_isPlain_0 {d : Nat} {Rq : SmQ} {l : SmL} {st : List SmV} {S : SmS} {I : SmI} (h : tr_X6_isPlain_0 d Rq l st S I) : SW mi_X6_isPlain 0 d Rq l st S I :=
  (show SmW mi_X6_isPlain 0 d Rq (tr_X6_isPlain_0 d Rq) from
  (xv_aload_n dX6_isPlain_0 rfl
  (xv_callV dX6_isPlain_1 cl_11 tg_11 ok_X6_findSequence rfl (lw_V q2085 q2087 qs76 q117 q2088)))) l st S I h
def tr_X6_isPlain_4 (d : Nat) (Rq : SmQ) (l : SmL) (st : List SmV) (S : SmS) (I : SmI) : Prop :=
  im_aload 0 l st S I fun l st S I =>
  im_p_X6_encode d l st S I fun l st S I =>
  im_zne l st S I (fun l st S I =>
  im_ic 0 l st S I fun l st S I =>
  im_zreturn Rq l st S I) (fun l st S I =>
  im_ic 1 l st S I fun l st S I =>
  im_zreturn Rq l st S I)
theorem rv_X6_isPlain_4 {d : Nat} {Rq : SmQ} {l : SmL} {st : List SmV} {S : SmS} {I : SmI} (h : tr_X6_isPlain_4 d Rq l st S I) : SW mi_X6_isPlain 4 d Rq l st S I :=
  (show SmW mi_X6_isPlain 4 d Rq (tr_X6_isPlain_4 d Rq) from
  (xv_aload_n dX6_isPlain_4 rfl
  (xv_p_X6_encode dX6_isPlain_5 (lw_V q2061 q2063 qs72 q117 q2064)
  (xv_zne dX6_isPlain_8 rfl
  (xv_iconst dX6_isPlain_15 rfl (inRd rfl)
  (xv_zreturn dX6_isPlain_16 rfl))
  (xv_iconst dX6_isPlain_11 rfl (inRd rfl)
  (xv_goto dX6_isPlain_12 rfl (xv_zreturn dX6_isPlain_16 rfl))))))) l st S I h
def tr_X6_against_0 (d : Nat) (Rq : SmQ) (l : SmL) (st : List SmV) (S : SmS) (I : SmI) : Prop :=
  im_aload 0 l st S I fun l st S I =>
  im_iload 1 l st S I fun l st S I =>
  im_ic 4 l st S I fun l st S I =>
  im_p_X6_ofTrain d l st S I fun l st S I =>
  im_zeq l st S I (fun l st S I =>
  im_aload 0 l st S I fun l st S I =>
  im_iload 1 l st S I fun l st S I =>
  im_ic 3 l st S I fun l st S I =>
  im_p_X6_ofTrain d l st S I fun l st S I =>
  im_istore 2 l st S I fun l st S I =>
  im_aload 0 l st S I fun l st S I =>
  im_iload 2 l st S I fun l st S I =>
  im_aload 0 l st S I fun l st S I =>
  im_iload 1 l st S I fun l st S I =>
  im_iload 2 l st S I fun l st S I =>
  im_p_X6_nextFrom d l st S I fun l st S I =>
  im_p_X6_runsBetween d l st S I fun l st S I =>
  im_ic (-4) l st S I fun l st S I =>
  im_ceq l st S I (fun l st S I =>
  im_aload 0 l st S I fun l st S I =>
  im_aload 0 l st S I fun l st S I =>
  im_p_X6_postureNow d l st S I fun l st S I =>
  im_callV 1 11 mi_X6_decode d (retK mi_X6_against 55 58 d Rq l) st S I) (fun l st S I =>
  im_ic 3 l st S I fun l st S I =>
  im_ireturn Rq l st S I)) (fun l st S I =>
  im_aload 0 l st S I fun l st S I =>
  im_iload 1 l st S I fun l st S I =>
  im_ic 4 l st S I fun l st S I =>
  im_p_X6_ofTrain d l st S I fun l st S I =>
  im_ic 2 l st S I fun l st S I =>
  im_cne l st S I (fun l st S I =>
  im_ic 2 l st S I fun l st S I =>
  im_ireturn Rq l st S I) (fun l st S I =>
  im_ic 1 l st S I fun l st S I =>
  im_ireturn Rq l st S I))
theorem rv_X6_against_0 {d : Nat} {Rq : SmQ} {l : SmL} {st : List SmV} {S : SmS} {I : SmI} (h : tr_X6_against_0 d Rq l st S I) : SW mi_X6_against 0 d Rq l st S I :=
  (show SmW mi_X6_against 0 d Rq (tr_X6_against_0 d Rq) from
  (xv_aload_n dX6_against_0 rfl
  (xv_iload_n dX6_against_1 rfl
  (xv_iconst dX6_against_2 rfl (inRd rfl)
  (xv_p_X6_ofTrain dX6_against_3 (lw_V q2003 q2005 qs59 q117 q2006)
  (xv_zeq dX6_against_6 rfl
  (xv_aload_n dX6_against_25 rfl
  (xv_iload_n dX6_against_26 rfl
  (xv_iconst dX6_against_27 rfl (inRd rfl)
  (xv_p_X6_ofTrain dX6_against_28 (lw_V q2003 q2005 qs59 q117 q2006)
  (xv_istore_n dX6_against_31 rfl (Nat.le_of_ble_eq_true rfl)
  (xv_aload_n dX6_against_32 rfl
  (xv_iload_n dX6_against_33 rfl
  (xv_aload_n dX6_against_34 rfl
  (xv_iload_n dX6_against_35 rfl
  (xv_iload_n dX6_against_36 rfl
  (xv_p_X6_nextFrom dX6_against_37 (lw_V q2057 q2059 qs71 q117 q2060)
  (xv_p_X6_runsBetween dX6_against_40 (lw_V q2105 q2107 qs81 q117 q2108)
  (xv_bipush dX6_against_43 rfl (inRd rfl)
  (xv_ceq dX6_against_45 rfl
  (xv_aload_n dX6_against_50 rfl
  (xv_aload_n dX6_against_51 rfl
  (xv_p_X6_postureNow dX6_against_52 (lw_V q2011 q2013 qs61 q117 q2014)
  (xv_callV dX6_against_55 cl_11 tg_11 ok_X6_decode rfl (lw_V q2022 q2024 qs63 q117 q2025)))))
  (xv_iconst dX6_against_48 rfl (inRd rfl)
  (xv_ireturn dX6_against_49 rfl))))))))))))))))
  (xv_aload_n dX6_against_9 rfl
  (xv_iload_n dX6_against_10 rfl
  (xv_iconst dX6_against_11 rfl (inRd rfl)
  (xv_p_X6_ofTrain dX6_against_12 (lw_V q2003 q2005 qs59 q117 q2006)
  (xv_iconst dX6_against_15 rfl (inRd rfl)
  (xv_cne dX6_against_16 rfl
  (xv_iconst dX6_against_23 rfl (inRd rfl)
  (xv_ireturn dX6_against_24 rfl))
  (xv_iconst dX6_against_19 rfl (inRd rfl)
  (xv_goto dX6_against_20 rfl (xv_ireturn dX6_against_24 rfl))))))))))))))) l st S I h
def tr_X6_against_58 (d : Nat) (Rq : SmQ) (l : SmL) (st : List SmV) (S : SmS) (I : SmI) : Prop :=
  im_aload 0 l st S I fun l st S I =>
  im_iload 1 l st S I fun l st S I =>
  im_p_X6_movedBy d l st S I fun l st S I =>
  im_istore 3 l st S I fun l st S I =>
  im_iload 3 l st S I fun l st S I =>
  im_ic (-4) l st S I fun l st S I =>
  im_cne l st S I (fun l st S I =>
  im_aload 0 l st S I fun l st S I =>
  im_getR 11 16 l st S I fun l st S I =>
  im_iload 3 l st S I fun l st S I =>
  im_ald 102 l st S I fun l st S I =>
  im_zeq l st S I (fun l st S I =>
  im_ic 5 l st S I fun l st S I =>
  im_ireturn Rq l st S I) (fun l st S I =>
  im_ic 0 l st S I fun l st S I =>
  im_ireturn Rq l st S I)) (fun l st S I =>
  im_ic 4 l st S I fun l st S I =>
  im_ireturn Rq l st S I)
theorem rv_X6_against_58 {d : Nat} {Rq : SmQ} {l : SmL} {st : List SmV} {S : SmS} {I : SmI} (h : tr_X6_against_58 d Rq l st S I) : SW mi_X6_against 58 d Rq l st S I :=
  (show SmW mi_X6_against 58 d Rq (tr_X6_against_58 d Rq) from
  (xv_aload_n dX6_against_58 rfl
  (xv_iload_n dX6_against_59 rfl
  (xv_p_X6_movedBy dX6_against_60 (lw_V q2053 q2055 qs70 q117 q2056)
  (xv_istore_n dX6_against_63 rfl (Nat.le_of_ble_eq_true rfl)
  (xv_iload_n dX6_against_64 rfl
  (xv_bipush dX6_against_65 rfl (inRd rfl)
  (xv_cne dX6_against_67 rfl
  (xv_aload_n dX6_against_74 rfl
  (xv_getR (k := 16) dX6_against_75 cl_11 tg_11 in_X6 (Nat.le_of_ble_eq_true rfl) rfl q1878
  (xv_iload_n dX6_against_78 rfl
  (xv_zald dX6_against_79
  (xv_zeq dX6_against_80 rfl
  (xv_iconst dX6_against_87 rfl (inRd rfl)
  (xv_ireturn dX6_against_88 rfl))
  (xv_iconst dX6_against_83 rfl (inRd rfl)
  (xv_goto dX6_against_84 rfl (xv_ireturn dX6_against_88 rfl))))))))
  (xv_iconst dX6_against_70 rfl (inRd rfl)
  (xv_goto dX6_against_71 rfl (xv_ireturn dX6_against_88 rfl))))))))))) l st S I h
def tr_X6_canGo_0 (d : Nat) (Rq : SmQ) (l : SmL) (st : List SmV) (S : SmS) (I : SmI) : Prop :=
  im_aload 0 l st S I fun l st S I =>
  im_aload 0 l st S I fun l st S I =>
  im_p_X6_postureNow d l st S I fun l st S I =>
  im_callV 1 11 mi_X6_explore d (retK mi_X6_canGo 5 8 d Rq l) st S I
theorem rv_X6_canGo_0 {d : Nat} {Rq : SmQ} {l : SmL} {st : List SmV} {S : SmS} {I : SmI} (h : tr_X6_canGo_0 d Rq l st S I) : SW mi_X6_canGo 0 d Rq l st S I :=
  (show SmW mi_X6_canGo 0 d Rq (tr_X6_canGo_0 d Rq) from
  (xv_aload_n dX6_canGo_0 rfl
  (xv_aload_n dX6_canGo_1 rfl
  (xv_p_X6_postureNow dX6_canGo_2 (lw_V q2011 q2013 qs61 q117 q2014)
  (xv_callV dX6_canGo_5 cl_11 tg_11 ok_X6_explore rfl (lw_V q2049 q2051 qs69 q117 q2052)))))) l st S I h
def tr_X6_canGo_8 (d : Nat) (Rq : SmQ) (l : SmL) (st : List SmV) (S : SmS) (I : SmI) : Prop :=
  im_ic 0 l st S I fun l st S I =>
  im_istore 1 l st S I fun l st S I =>
  im_ic 0 l st S I fun l st S I =>
  im_istore 2 l st S I fun l st S I =>
  SW mi_X6_canGo 12 d Rq l st S I
theorem rv_X6_canGo_8 {d : Nat} {Rq : SmQ} {l : SmL} {st : List SmV} {S : SmS} {I : SmI} (h : tr_X6_canGo_8 d Rq l st S I) : SW mi_X6_canGo 8 d Rq l st S I :=
  (show SmW mi_X6_canGo 8 d Rq (tr_X6_canGo_8 d Rq) from
  (xv_iconst dX6_canGo_8 rfl (inRd rfl)
  (xv_istore_n dX6_canGo_9 rfl (Nat.le_of_ble_eq_true rfl)
  (xv_iconst dX6_canGo_10 rfl (inRd rfl)
  (xv_istore_n dX6_canGo_11 rfl (Nat.le_of_ble_eq_true rfl)
  (fun _ _ _ _ h => h)))))) l st S I h
def tr_X6_canGo_12 (d : Nat) (Rq : SmQ) (l : SmL) (st : List SmV) (S : SmS) (I : SmI) : Prop :=
  im_iload 2 l st S I fun l st S I =>
  im_aload 0 l st S I fun l st S I =>
  im_getR 11 0 l st S I fun l st S I =>
  im_ic 1 l st S I fun l st S I =>
  im_ald 100 l st S I fun l st S I =>
  im_cge l st S I (fun l st S I =>
  im_iload 1 l st S I fun l st S I =>
  im_ireturn Rq l st S I) (fun l st S I =>
  im_iload 1 l st S I fun l st S I =>
  im_aload 0 l st S I fun l st S I =>
  im_iload 2 l st S I fun l st S I =>
  im_callV 1 11 mi_X6_against d (retK mi_X6_canGo 25 28 d Rq l) st S I)
theorem rv_X6_canGo_12 {d : Nat} {Rq : SmQ} {l : SmL} {st : List SmV} {S : SmS} {I : SmI} (h : tr_X6_canGo_12 d Rq l st S I) : SW mi_X6_canGo 12 d Rq l st S I :=
  (show SmW mi_X6_canGo 12 d Rq (tr_X6_canGo_12 d Rq) from
  (xv_iload_n dX6_canGo_12 rfl
  (xv_aload_n dX6_canGo_13 rfl
  (xv_getR (k := 0) dX6_canGo_14 cl_11 tg_11 in_X6 (Nat.le_of_ble_eq_true rfl) rfl q1862
  (xv_iconst dX6_canGo_17 rfl (inRd rfl)
  (xv_iald dX6_canGo_18
  (xv_cge dX6_canGo_19 rfl
  (xv_iload_n dX6_canGo_47 rfl
  (xv_ireturn dX6_canGo_48 rfl))
  (xv_iload_n dX6_canGo_22 rfl
  (xv_aload_n dX6_canGo_23 rfl
  (xv_iload_n dX6_canGo_24 rfl
  (xv_callV dX6_canGo_25 cl_11 tg_11 ok_X6_against rfl (lw_V q2101 q2103 qs80 q117 q2104)))))))))))) l st S I h
def tr_X6_canGo_28 (d : Nat) (Rq : SmQ) (l : SmL) (st : List SmV) (S : SmS) (I : SmI) : Prop :=
  im_zne l st S I (fun l st S I =>
  im_ic 0 l st S I fun l st S I =>
  im_p_X6_flag d l st S I fun l st S I =>
  im_iadd l st S I fun l st S I =>
  im_istore 1 l st S I fun l st S I =>
  im_iinc 2 1 l st S I fun l st S I =>
  SW mi_X6_canGo 12 d Rq l st S I) (fun l st S I =>
  im_ic 1 l st S I fun l st S I =>
  im_p_X6_flag d l st S I fun l st S I =>
  im_iadd l st S I fun l st S I =>
  im_istore 1 l st S I fun l st S I =>
  im_iinc 2 1 l st S I fun l st S I =>
  SW mi_X6_canGo 12 d Rq l st S I)
theorem rv_X6_canGo_28 {d : Nat} {Rq : SmQ} {l : SmL} {st : List SmV} {S : SmS} {I : SmI} (h : tr_X6_canGo_28 d Rq l st S I) : SW mi_X6_canGo 28 d Rq l st S I :=
  (show SmW mi_X6_canGo 28 d Rq (tr_X6_canGo_28 d Rq) from
  (xv_zne dX6_canGo_28 rfl
  (xv_iconst dX6_canGo_35 rfl (inRd rfl)
  (xv_p_X6_flag dX6_canGo_36 (lw_S q2034 q2035 q117 q2036)
  (xv_iadd dX6_canGo_39
  (xv_istore_n dX6_canGo_40 rfl (Nat.le_of_ble_eq_true rfl)
  (xv_iinc dX6_canGo_41 (Nat.le_of_ble_eq_true rfl)
  (xv_goto dX6_canGo_44 rfl (fun _ _ _ _ h => h)))))))
  (xv_iconst dX6_canGo_31 rfl (inRd rfl)
  (xv_goto dX6_canGo_32 rfl (xv_p_X6_flag dX6_canGo_36 (lw_S q2034 q2035 q117 q2036)
  (xv_iadd dX6_canGo_39
  (xv_istore_n dX6_canGo_40 rfl (Nat.le_of_ble_eq_true rfl)
  (xv_iinc dX6_canGo_41 (Nat.le_of_ble_eq_true rfl)
  (xv_goto dX6_canGo_44 rfl (fun _ _ _ _ h => h)))))))))) l st S I h
def tr_X6_firstAt_0 (d : Nat) (Rq : SmQ) (l : SmL) (st : List SmV) (S : SmS) (I : SmI) : Prop :=
  im_aload 0 l st S I fun l st S I =>
  im_aload 0 l st S I fun l st S I =>
  im_p_X6_postureNow d l st S I fun l st S I =>
  im_callV 1 11 mi_X6_decode d (retK mi_X6_firstAt 5 8 d Rq l) st S I
theorem rv_X6_firstAt_0 {d : Nat} {Rq : SmQ} {l : SmL} {st : List SmV} {S : SmS} {I : SmI} (h : tr_X6_firstAt_0 d Rq l st S I) : SW mi_X6_firstAt 0 d Rq l st S I :=
  (show SmW mi_X6_firstAt 0 d Rq (tr_X6_firstAt_0 d Rq) from
  (xv_aload_n dX6_firstAt_0 rfl
  (xv_aload_n dX6_firstAt_1 rfl
  (xv_p_X6_postureNow dX6_firstAt_2 (lw_V q2011 q2013 qs61 q117 q2014)
  (xv_callV dX6_firstAt_5 cl_11 tg_11 ok_X6_decode rfl (lw_V q2022 q2024 qs63 q117 q2025)))))) l st S I h
def tr_X6_firstAt_8 (d : Nat) (Rq : SmQ) (l : SmL) (st : List SmV) (S : SmS) (I : SmI) : Prop :=
  im_ic 0 l st S I fun l st S I =>
  im_istore 2 l st S I fun l st S I =>
  SW mi_X6_firstAt 10 d Rq l st S I
theorem rv_X6_firstAt_8 {d : Nat} {Rq : SmQ} {l : SmL} {st : List SmV} {S : SmS} {I : SmI} (h : tr_X6_firstAt_8 d Rq l st S I) : SW mi_X6_firstAt 8 d Rq l st S I :=
  (show SmW mi_X6_firstAt 8 d Rq (tr_X6_firstAt_8 d Rq) from
  (xv_iconst dX6_firstAt_8 rfl (inRd rfl)
  (xv_istore_n dX6_firstAt_9 rfl (Nat.le_of_ble_eq_true rfl)
  (fun _ _ _ _ h => h)))) l st S I h
def tr_X6_firstAt_10 (d : Nat) (Rq : SmQ) (l : SmL) (st : List SmV) (S : SmS) (I : SmI) : Prop :=
  im_iload 2 l st S I fun l st S I =>
  im_aload 0 l st S I fun l st S I =>
  im_getR 11 0 l st S I fun l st S I =>
  im_ic 1 l st S I fun l st S I =>
  im_ald 100 l st S I fun l st S I =>
  im_cge l st S I (fun l st S I =>
  im_ic (-4) l st S I fun l st S I =>
  im_ireturn Rq l st S I) (fun l st S I =>
  im_aload 0 l st S I fun l st S I =>
  im_getR 11 13 l st S I fun l st S I =>
  im_iload 2 l st S I fun l st S I =>
  im_ald 100 l st S I fun l st S I =>
  im_iload 1 l st S I fun l st S I =>
  im_ic 1 l st S I fun l st S I =>
  im_iadd l st S I fun l st S I =>
  im_cne l st S I (fun l st S I =>
  im_iinc 2 1 l st S I fun l st S I =>
  SW mi_X6_firstAt 10 d Rq l st S I) (fun l st S I =>
  im_iload 2 l st S I fun l st S I =>
  im_ireturn Rq l st S I))
theorem rv_X6_firstAt_10 {d : Nat} {Rq : SmQ} {l : SmL} {st : List SmV} {S : SmS} {I : SmI} (h : tr_X6_firstAt_10 d Rq l st S I) : SW mi_X6_firstAt 10 d Rq l st S I :=
  (show SmW mi_X6_firstAt 10 d Rq (tr_X6_firstAt_10 d Rq) from
  (xv_iload_n dX6_firstAt_10 rfl
  (xv_aload_n dX6_firstAt_11 rfl
  (xv_getR (k := 0) dX6_firstAt_12 cl_11 tg_11 in_X6 (Nat.le_of_ble_eq_true rfl) rfl q1862
  (xv_iconst dX6_firstAt_15 rfl (inRd rfl)
  (xv_iald dX6_firstAt_16
  (xv_cge dX6_firstAt_17 rfl
  (xv_bipush dX6_firstAt_40 rfl (inRd rfl)
  (xv_ireturn dX6_firstAt_42 rfl))
  (xv_aload_n dX6_firstAt_20 rfl
  (xv_getR (k := 13) dX6_firstAt_21 cl_11 tg_11 in_X6 (Nat.le_of_ble_eq_true rfl) rfl q1875
  (xv_iload_n dX6_firstAt_24 rfl
  (xv_iald dX6_firstAt_25
  (xv_iload_n dX6_firstAt_26 rfl
  (xv_iconst dX6_firstAt_27 rfl (inRd rfl)
  (xv_iadd dX6_firstAt_28
  (xv_cne dX6_firstAt_29 rfl
  (xv_iinc dX6_firstAt_34 (Nat.le_of_ble_eq_true rfl)
  (xv_goto dX6_firstAt_37 rfl (fun _ _ _ _ h => h)))
  (xv_iload_n dX6_firstAt_32 rfl
  (xv_ireturn dX6_firstAt_33 rfl))))))))))))))))) l st S I h
def tr_X6_isHeldAll_0 (d : Nat) (Rq : SmQ) (l : SmL) (st : List SmV) (S : SmS) (I : SmI) : Prop :=
  im_aload 0 l st S I fun l st S I =>
  im_aload 0 l st S I fun l st S I =>
  im_p_X6_postureNow d l st S I fun l st S I =>
  im_callV 1 11 mi_X6_decode d (retK mi_X6_isHeldAll 5 8 d Rq l) st S I
theorem rv_X6_isHeldAll_0 {d : Nat} {Rq : SmQ} {l : SmL} {st : List SmV} {S : SmS} {I : SmI} (h : tr_X6_isHeldAll_0 d Rq l st S I) : SW mi_X6_isHeldAll 0 d Rq l st S I :=
  (show SmW mi_X6_isHeldAll 0 d Rq (tr_X6_isHeldAll_0 d Rq) from
  (xv_aload_n dX6_isHeldAll_0 rfl
  (xv_aload_n dX6_isHeldAll_1 rfl
  (xv_p_X6_postureNow dX6_isHeldAll_2 (lw_V q2011 q2013 qs61 q117 q2014)
  (xv_callV dX6_isHeldAll_5 cl_11 tg_11 ok_X6_decode rfl (lw_V q2022 q2024 qs63 q117 q2025)))))) l st S I h
def tr_X6_isHeldAll_8 (d : Nat) (Rq : SmQ) (l : SmL) (st : List SmV) (S : SmS) (I : SmI) : Prop :=
  im_ic 1 l st S I fun l st S I =>
  im_istore 1 l st S I fun l st S I =>
  im_ic 0 l st S I fun l st S I =>
  im_istore 2 l st S I fun l st S I =>
  SW mi_X6_isHeldAll 12 d Rq l st S I
theorem rv_X6_isHeldAll_8 {d : Nat} {Rq : SmQ} {l : SmL} {st : List SmV} {S : SmS} {I : SmI} (h : tr_X6_isHeldAll_8 d Rq l st S I) : SW mi_X6_isHeldAll 8 d Rq l st S I :=
  (show SmW mi_X6_isHeldAll 8 d Rq (tr_X6_isHeldAll_8 d Rq) from
  (xv_iconst dX6_isHeldAll_8 rfl (inRd rfl)
  (xv_istore_n dX6_isHeldAll_9 rfl (Nat.le_of_ble_eq_true rfl)
  (xv_iconst dX6_isHeldAll_10 rfl (inRd rfl)
  (xv_istore_n dX6_isHeldAll_11 rfl (Nat.le_of_ble_eq_true rfl)
  (fun _ _ _ _ h => h)))))) l st S I h
def tr_X6_isHeldAll_12 (d : Nat) (Rq : SmQ) (l : SmL) (st : List SmV) (S : SmS) (I : SmI) : Prop :=
  im_iload 2 l st S I fun l st S I =>
  im_aload 0 l st S I fun l st S I =>
  im_getR 11 0 l st S I fun l st S I =>
  im_ic 0 l st S I fun l st S I =>
  im_ald 100 l st S I fun l st S I =>
  im_cge l st S I (fun l st S I =>
  im_iload 1 l st S I fun l st S I =>
  im_zreturn Rq l st S I) (fun l st S I =>
  im_iload 1 l st S I fun l st S I =>
  im_zeq l st S I (fun l st S I =>
  im_ic 0 l st S I fun l st S I =>
  im_istore 1 l st S I fun l st S I =>
  im_iinc 2 1 l st S I fun l st S I =>
  SW mi_X6_isHeldAll 12 d Rq l st S I) (fun l st S I =>
  im_aload 0 l st S I fun l st S I =>
  im_iload 2 l st S I fun l st S I =>
  im_p_X6_holds d l st S I fun l st S I =>
  im_zeq l st S I (fun l st S I =>
  im_ic 0 l st S I fun l st S I =>
  im_istore 1 l st S I fun l st S I =>
  im_iinc 2 1 l st S I fun l st S I =>
  SW mi_X6_isHeldAll 12 d Rq l st S I) (fun l st S I =>
  im_ic 1 l st S I fun l st S I =>
  im_istore 1 l st S I fun l st S I =>
  im_iinc 2 1 l st S I fun l st S I =>
  SW mi_X6_isHeldAll 12 d Rq l st S I)))
theorem rv_X6_isHeldAll_12 {d : Nat} {Rq : SmQ} {l : SmL} {st : List SmV} {S : SmS} {I : SmI} (h : tr_X6_isHeldAll_12 d Rq l st S I) : SW mi_X6_isHeldAll 12 d Rq l st S I :=
  (show SmW mi_X6_isHeldAll 12 d Rq (tr_X6_isHeldAll_12 d Rq) from
  (xv_iload_n dX6_isHeldAll_12 rfl
  (xv_aload_n dX6_isHeldAll_13 rfl
  (xv_getR (k := 0) dX6_isHeldAll_14 cl_11 tg_11 in_X6 (Nat.le_of_ble_eq_true rfl) rfl q1862
  (xv_iconst dX6_isHeldAll_17 rfl (inRd rfl)
  (xv_iald dX6_isHeldAll_18
  (xv_cge dX6_isHeldAll_19 rfl
  (xv_iload_n dX6_isHeldAll_46 rfl
  (xv_zreturn dX6_isHeldAll_47 rfl))
  (xv_iload_n dX6_isHeldAll_22 rfl
  (xv_zeq dX6_isHeldAll_23 rfl
  (xv_iconst dX6_isHeldAll_38 rfl (inRd rfl)
  (xv_istore_n dX6_isHeldAll_39 rfl (Nat.le_of_ble_eq_true rfl)
  (xv_iinc dX6_isHeldAll_40 (Nat.le_of_ble_eq_true rfl)
  (xv_goto dX6_isHeldAll_43 rfl (fun _ _ _ _ h => h)))))
  (xv_aload_n dX6_isHeldAll_26 rfl
  (xv_iload_n dX6_isHeldAll_27 rfl
  (xv_p_X6_holds dX6_isHeldAll_28 (lw_V q2026 q2028 qs64 q117 q2029)
  (xv_zeq dX6_isHeldAll_31 rfl
  (xv_iconst dX6_isHeldAll_38 rfl (inRd rfl)
  (xv_istore_n dX6_isHeldAll_39 rfl (Nat.le_of_ble_eq_true rfl)
  (xv_iinc dX6_isHeldAll_40 (Nat.le_of_ble_eq_true rfl)
  (xv_goto dX6_isHeldAll_43 rfl (fun _ _ _ _ h => h)))))
  (xv_iconst dX6_isHeldAll_34 rfl (inRd rfl)
  (xv_goto dX6_isHeldAll_35 rfl (xv_istore_n dX6_isHeldAll_39 rfl (Nat.le_of_ble_eq_true rfl)
  (xv_iinc dX6_isHeldAll_40 (Nat.le_of_ble_eq_true rfl)
  (xv_goto dX6_isHeldAll_43 rfl (fun _ _ _ _ h => h))))))))))))))))))) l st S I h
def tr_X6_isSafeNow_0 (d : Nat) (Rq : SmQ) (l : SmL) (st : List SmV) (S : SmS) (I : SmI) : Prop :=
  im_aload 0 l st S I fun l st S I =>
  im_aload 0 l st S I fun l st S I =>
  im_p_X6_postureNow d l st S I fun l st S I =>
  im_callV 1 11 mi_X6_explore d (retK mi_X6_isSafeNow 5 8 d Rq l) st S I
theorem rv_X6_isSafeNow_0 {d : Nat} {Rq : SmQ} {l : SmL} {st : List SmV} {S : SmS} {I : SmI} (h : tr_X6_isSafeNow_0 d Rq l st S I) : SW mi_X6_isSafeNow 0 d Rq l st S I :=
  (show SmW mi_X6_isSafeNow 0 d Rq (tr_X6_isSafeNow_0 d Rq) from
  (xv_aload_n dX6_isSafeNow_0 rfl
  (xv_aload_n dX6_isSafeNow_1 rfl
  (xv_p_X6_postureNow dX6_isSafeNow_2 (lw_V q2011 q2013 qs61 q117 q2014)
  (xv_callV dX6_isSafeNow_5 cl_11 tg_11 ok_X6_explore rfl (lw_V q2049 q2051 qs69 q117 q2052)))))) l st S I h
def tr_X6_isSafeNow_8 (d : Nat) (Rq : SmQ) (l : SmL) (st : List SmV) (S : SmS) (I : SmI) : Prop :=
  im_aload 0 l st S I fun l st S I =>
  im_getR 11 16 l st S I fun l st S I =>
  im_aload 0 l st S I fun l st S I =>
  im_p_X6_postureNow d l st S I fun l st S I =>
  im_ald 102 l st S I fun l st S I =>
  im_zreturn Rq l st S I
theorem rv_X6_isSafeNow_8 {d : Nat} {Rq : SmQ} {l : SmL} {st : List SmV} {S : SmS} {I : SmI} (h : tr_X6_isSafeNow_8 d Rq l st S I) : SW mi_X6_isSafeNow 8 d Rq l st S I :=
  (show SmW mi_X6_isSafeNow 8 d Rq (tr_X6_isSafeNow_8 d Rq) from
  (xv_aload_n dX6_isSafeNow_8 rfl
  (xv_getR (k := 16) dX6_isSafeNow_9 cl_11 tg_11 in_X6 (Nat.le_of_ble_eq_true rfl) rfl q1878
  (xv_aload_n dX6_isSafeNow_12 rfl
  (xv_p_X6_postureNow dX6_isSafeNow_13 (lw_V q2011 q2013 qs61 q117 q2014)
  (xv_zald dX6_isSafeNow_16
  (xv_zreturn dX6_isSafeNow_17 rfl))))))) l st S I h
def tr_X6_goesOn_0 (d : Nat) (Rq : SmQ) (l : SmL) (st : List SmV) (S : SmS) (I : SmI) : Prop :=
  im_aload 0 l st S I fun l st S I =>
  im_getR 11 0 l st S I fun l st S I =>
  im_ic 2 l st S I fun l st S I =>
  im_dup2 l st S I fun l st S I =>
  im_ald 100 l st S I fun l st S I =>
  im_iload 1 l st S I fun l st S I =>
  im_iadd l st S I fun l st S I =>
  im_iast l st S I fun l st S I =>
  im_ic 0 l st S I fun l st S I =>
  im_istore 2 l st S I fun l st S I =>
  im_ic 0 l st S I fun l st S I =>
  im_istore 3 l st S I fun l st S I =>
  SW mi_X6_goesOn 14 d Rq l st S I
theorem rv_X6_goesOn_0 {d : Nat} {Rq : SmQ} {l : SmL} {st : List SmV} {S : SmS} {I : SmI} (h : tr_X6_goesOn_0 d Rq l st S I) : SW mi_X6_goesOn 0 d Rq l st S I :=
  (show SmW mi_X6_goesOn 0 d Rq (tr_X6_goesOn_0 d Rq) from
  (xv_aload_n dX6_goesOn_0 rfl
  (xv_getR (k := 0) dX6_goesOn_1 cl_11 tg_11 in_X6 (Nat.le_of_ble_eq_true rfl) rfl q1862
  (xv_iconst dX6_goesOn_4 rfl (inRd rfl)
  (xv_dup2 dX6_goesOn_5
  (xv_iald dX6_goesOn_6
  (xv_iload_n dX6_goesOn_7 rfl
  (xv_iadd dX6_goesOn_8
  (xv_iast dX6_goesOn_9
  (xv_iconst dX6_goesOn_10 rfl (inRd rfl)
  (xv_istore_n dX6_goesOn_11 rfl (Nat.le_of_ble_eq_true rfl)
  (xv_iconst dX6_goesOn_12 rfl (inRd rfl)
  (xv_istore_n dX6_goesOn_13 rfl (Nat.le_of_ble_eq_true rfl)
  (fun _ _ _ _ h => h)))))))))))))) l st S I h
def tr_X6_goesOn_14 (d : Nat) (Rq : SmQ) (l : SmL) (st : List SmV) (S : SmS) (I : SmI) : Prop :=
  im_iload 3 l st S I fun l st S I =>
  im_aload 0 l st S I fun l st S I =>
  im_getR 11 0 l st S I fun l st S I =>
  im_ic 1 l st S I fun l st S I =>
  im_ald 100 l st S I fun l st S I =>
  im_cge l st S I (fun l st S I =>
  im_iload 2 l st S I fun l st S I =>
  im_ireturn Rq l st S I) (fun l st S I =>
  im_ic 34 l st S I fun l st S I =>
  im_ic 6 l st S I fun l st S I =>
  im_iload 3 l st S I fun l st S I =>
  im_imul l st S I fun l st S I =>
  im_iadd l st S I fun l st S I =>
  im_istore 4 l st S I fun l st S I =>
  im_aload 0 l st S I fun l st S I =>
  im_getR 11 0 l st S I fun l st S I =>
  im_iload 4 l st S I fun l st S I =>
  im_ic 4 l st S I fun l st S I =>
  im_iadd l st S I fun l st S I =>
  im_ald 100 l st S I fun l st S I =>
  im_ic 1 l st S I fun l st S I =>
  im_cne l st S I (fun l st S I =>
  im_iinc 3 1 l st S I fun l st S I =>
  SW mi_X6_goesOn 14 d Rq l st S I) (fun l st S I =>
  im_aload 0 l st S I fun l st S I =>
  im_getR 11 0 l st S I fun l st S I =>
  im_iload 4 l st S I fun l st S I =>
  im_ic 5 l st S I fun l st S I =>
  im_iadd l st S I fun l st S I =>
  im_ald 100 l st S I fun l st S I =>
  im_aload 0 l st S I fun l st S I =>
  im_getR 11 0 l st S I fun l st S I =>
  im_ic 2 l st S I fun l st S I =>
  im_ald 100 l st S I fun l st S I =>
  im_cgt l st S I (fun l st S I =>
  im_iinc 3 1 l st S I fun l st S I =>
  SW mi_X6_goesOn 14 d Rq l st S I) (fun l st S I =>
  im_aload 0 l st S I fun l st S I =>
  im_getR 11 0 l st S I fun l st S I =>
  im_iload 4 l st S I fun l st S I =>
  im_ic 3 l st S I fun l st S I =>
  im_iadd l st S I fun l st S I =>
  im_ald 100 l st S I fun l st S I =>
  im_aload 0 l st S I fun l st S I =>
  im_getR 11 0 l st S I fun l st S I =>
  im_iload 4 l st S I fun l st S I =>
  im_ic 1 l st S I fun l st S I =>
  im_iadd l st S I fun l st S I =>
  im_ald 100 l st S I fun l st S I =>
  im_cne l st S I (fun l st S I =>
  im_ic 0 l st S I fun l st S I =>
  SW mi_X6_goesOn 90 d Rq l st S I) (fun l st S I =>
  im_ic 1 l st S I fun l st S I =>
  SW mi_X6_goesOn 90 d Rq l st S I))))
theorem rv_X6_goesOn_14 {d : Nat} {Rq : SmQ} {l : SmL} {st : List SmV} {S : SmS} {I : SmI} (h : tr_X6_goesOn_14 d Rq l st S I) : SW mi_X6_goesOn 14 d Rq l st S I :=
  (show SmW mi_X6_goesOn 14 d Rq (tr_X6_goesOn_14 d Rq) from
  (xv_iload_n dX6_goesOn_14 rfl
  (xv_aload_n dX6_goesOn_15 rfl
  (xv_getR (k := 0) dX6_goesOn_16 cl_11 tg_11 in_X6 (Nat.le_of_ble_eq_true rfl) rfl q1862
  (xv_iconst dX6_goesOn_19 rfl (inRd rfl)
  (xv_iald dX6_goesOn_20
  (xv_cge dX6_goesOn_21 rfl
  (xv_iload_n dX6_goesOn_148 rfl
  (xv_ireturn dX6_goesOn_149 rfl))
  (xv_bipush dX6_goesOn_24 rfl (inRd rfl)
  (xv_bipush dX6_goesOn_26 rfl (inRd rfl)
  (xv_iload_n dX6_goesOn_28 rfl
  (xv_imul dX6_goesOn_29
  (xv_iadd dX6_goesOn_30
  (xv_istore dX6_goesOn_31 (Nat.le_of_ble_eq_true rfl)
  (xv_aload_n dX6_goesOn_33 rfl
  (xv_getR (k := 0) dX6_goesOn_34 cl_11 tg_11 in_X6 (Nat.le_of_ble_eq_true rfl) rfl q1862
  (xv_iload dX6_goesOn_37
  (xv_iconst dX6_goesOn_39 rfl (inRd rfl)
  (xv_iadd dX6_goesOn_40
  (xv_iald dX6_goesOn_41
  (xv_iconst dX6_goesOn_42 rfl (inRd rfl)
  (xv_cne dX6_goesOn_43 rfl
  (xv_iinc dX6_goesOn_142 (Nat.le_of_ble_eq_true rfl)
  (xv_goto dX6_goesOn_145 rfl (fun _ _ _ _ h => h)))
  (xv_aload_n dX6_goesOn_46 rfl
  (xv_getR (k := 0) dX6_goesOn_47 cl_11 tg_11 in_X6 (Nat.le_of_ble_eq_true rfl) rfl q1862
  (xv_iload dX6_goesOn_50
  (xv_iconst dX6_goesOn_52 rfl (inRd rfl)
  (xv_iadd dX6_goesOn_53
  (xv_iald dX6_goesOn_54
  (xv_aload_n dX6_goesOn_55 rfl
  (xv_getR (k := 0) dX6_goesOn_56 cl_11 tg_11 in_X6 (Nat.le_of_ble_eq_true rfl) rfl q1862
  (xv_iconst dX6_goesOn_59 rfl (inRd rfl)
  (xv_iald dX6_goesOn_60
  (xv_cgt dX6_goesOn_61 rfl
  (xv_iinc dX6_goesOn_142 (Nat.le_of_ble_eq_true rfl)
  (xv_goto dX6_goesOn_145 rfl (fun _ _ _ _ h => h)))
  (xv_aload_n dX6_goesOn_64 rfl
  (xv_getR (k := 0) dX6_goesOn_65 cl_11 tg_11 in_X6 (Nat.le_of_ble_eq_true rfl) rfl q1862
  (xv_iload dX6_goesOn_68
  (xv_iconst dX6_goesOn_70 rfl (inRd rfl)
  (xv_iadd dX6_goesOn_71
  (xv_iald dX6_goesOn_72
  (xv_aload_n dX6_goesOn_73 rfl
  (xv_getR (k := 0) dX6_goesOn_74 cl_11 tg_11 in_X6 (Nat.le_of_ble_eq_true rfl) rfl q1862
  (xv_iload dX6_goesOn_77
  (xv_iconst dX6_goesOn_79 rfl (inRd rfl)
  (xv_iadd dX6_goesOn_80
  (xv_iald dX6_goesOn_81
  (xv_cne dX6_goesOn_82 rfl
  (xv_iconst dX6_goesOn_89 rfl (inRd rfl)
  (fun _ _ _ _ h => h))
  (xv_iconst dX6_goesOn_85 rfl (inRd rfl)
  (xv_goto dX6_goesOn_86 rfl (fun _ _ _ _ h => h)))))))))))))))))))))))))))))))))))))))))))))))) l st S I h
def tr_X6_goesOn_90 (d : Nat) (Rq : SmQ) (l : SmL) (st : List SmV) (S : SmS) (I : SmI) : Prop :=
  im_istore 5 l st S I fun l st S I =>
  im_aload 0 l st S I fun l st S I =>
  im_getR 11 0 l st S I fun l st S I =>
  im_iload 4 l st S I fun l st S I =>
  im_ic 4 l st S I fun l st S I =>
  im_iadd l st S I fun l st S I =>
  im_iload 5 l st S I fun l st S I =>
  im_zeq l st S I (fun l st S I =>
  im_ic 0 l st S I fun l st S I =>
  SW mi_X6_goesOn 110 d Rq l st S I) (fun l st S I =>
  im_ic 2 l st S I fun l st S I =>
  SW mi_X6_goesOn 110 d Rq l st S I)
theorem rv_X6_goesOn_90 {d : Nat} {Rq : SmQ} {l : SmL} {st : List SmV} {S : SmS} {I : SmI} (h : tr_X6_goesOn_90 d Rq l st S I) : SW mi_X6_goesOn 90 d Rq l st S I :=
  (show SmW mi_X6_goesOn 90 d Rq (tr_X6_goesOn_90 d Rq) from
  (xv_istore dX6_goesOn_90 (Nat.le_of_ble_eq_true rfl)
  (xv_aload_n dX6_goesOn_92 rfl
  (xv_getR (k := 0) dX6_goesOn_93 cl_11 tg_11 in_X6 (Nat.le_of_ble_eq_true rfl) rfl q1862
  (xv_iload dX6_goesOn_96
  (xv_iconst dX6_goesOn_98 rfl (inRd rfl)
  (xv_iadd dX6_goesOn_99
  (xv_iload dX6_goesOn_100
  (xv_zeq dX6_goesOn_102 rfl
  (xv_iconst dX6_goesOn_109 rfl (inRd rfl)
  (fun _ _ _ _ h => h))
  (xv_iconst dX6_goesOn_105 rfl (inRd rfl)
  (xv_goto dX6_goesOn_106 rfl (fun _ _ _ _ h => h)))))))))))) l st S I h
def tr_X6_goesOn_110 (d : Nat) (Rq : SmQ) (l : SmL) (st : List SmV) (S : SmS) (I : SmI) : Prop :=
  im_iast l st S I fun l st S I =>
  im_aload 0 l st S I fun l st S I =>
  im_getR 11 0 l st S I fun l st S I =>
  im_iload 4 l st S I fun l st S I =>
  im_ic 5 l st S I fun l st S I =>
  im_iadd l st S I fun l st S I =>
  im_iload 5 l st S I fun l st S I =>
  im_zeq l st S I (fun l st S I =>
  im_ic (-4) l st S I fun l st S I =>
  im_iast l st S I fun l st S I =>
  im_iinc 2 1 l st S I fun l st S I =>
  im_iinc 3 1 l st S I fun l st S I =>
  SW mi_X6_goesOn 14 d Rq l st S I) (fun l st S I =>
  im_aload 0 l st S I fun l st S I =>
  im_getR 11 0 l st S I fun l st S I =>
  im_iload 4 l st S I fun l st S I =>
  im_ic 5 l st S I fun l st S I =>
  im_iadd l st S I fun l st S I =>
  im_ald 100 l st S I fun l st S I =>
  im_iast l st S I fun l st S I =>
  im_iinc 2 1 l st S I fun l st S I =>
  im_iinc 3 1 l st S I fun l st S I =>
  SW mi_X6_goesOn 14 d Rq l st S I)
theorem rv_X6_goesOn_110 {d : Nat} {Rq : SmQ} {l : SmL} {st : List SmV} {S : SmS} {I : SmI} (h : tr_X6_goesOn_110 d Rq l st S I) : SW mi_X6_goesOn 110 d Rq l st S I :=
  (show SmW mi_X6_goesOn 110 d Rq (tr_X6_goesOn_110 d Rq) from
  (xv_iast dX6_goesOn_110
  (xv_aload_n dX6_goesOn_111 rfl
  (xv_getR (k := 0) dX6_goesOn_112 cl_11 tg_11 in_X6 (Nat.le_of_ble_eq_true rfl) rfl q1862
  (xv_iload dX6_goesOn_115
  (xv_iconst dX6_goesOn_117 rfl (inRd rfl)
  (xv_iadd dX6_goesOn_118
  (xv_iload dX6_goesOn_119
  (xv_zeq dX6_goesOn_121 rfl
  (xv_bipush dX6_goesOn_136 rfl (inRd rfl)
  (xv_iast dX6_goesOn_138
  (xv_iinc dX6_goesOn_139 (Nat.le_of_ble_eq_true rfl)
  (xv_iinc dX6_goesOn_142 (Nat.le_of_ble_eq_true rfl)
  (xv_goto dX6_goesOn_145 rfl (fun _ _ _ _ h => h))))))
  (xv_aload_n dX6_goesOn_124 rfl
  (xv_getR (k := 0) dX6_goesOn_125 cl_11 tg_11 in_X6 (Nat.le_of_ble_eq_true rfl) rfl q1862
  (xv_iload dX6_goesOn_128
  (xv_iconst dX6_goesOn_130 rfl (inRd rfl)
  (xv_iadd dX6_goesOn_131
  (xv_iald dX6_goesOn_132
  (xv_goto dX6_goesOn_133 rfl (xv_iast dX6_goesOn_138
  (xv_iinc dX6_goesOn_139 (Nat.le_of_ble_eq_true rfl)
  (xv_iinc dX6_goesOn_142 (Nat.le_of_ble_eq_true rfl)
  (xv_goto dX6_goesOn_145 rfl (fun _ _ _ _ h => h))))))))))))))))))))) l st S I h
def tr_X6_sends_0 (d : Nat) (Rq : SmQ) (l : SmL) (st : List SmV) (S : SmS) (I : SmI) : Prop :=
  im_ic 0 l st S I fun l st S I =>
  im_istore 2 l st S I fun l st S I =>
  im_aload 0 l st S I fun l st S I =>
  im_iload 1 l st S I fun l st S I =>
  im_callV 1 11 mi_X6_firstBy d (retK mi_X6_sends 4 7 d Rq l) st S I
theorem rv_X6_sends_0 {d : Nat} {Rq : SmQ} {l : SmL} {st : List SmV} {S : SmS} {I : SmI} (h : tr_X6_sends_0 d Rq l st S I) : SW mi_X6_sends 0 d Rq l st S I :=
  (show SmW mi_X6_sends 0 d Rq (tr_X6_sends_0 d Rq) from
  (xv_iconst dX6_sends_0 rfl (inRd rfl)
  (xv_istore_n dX6_sends_1 rfl (Nat.le_of_ble_eq_true rfl)
  (xv_aload_n dX6_sends_2 rfl
  (xv_iload_n dX6_sends_3 rfl
  (xv_callV dX6_sends_4 cl_11 tg_11 ok_X6_firstBy rfl (lw_V q2186 q2188 qs94 q117 q2189))))))) l st S I h
def tr_X6_sends_7 (d : Nat) (Rq : SmQ) (l : SmL) (st : List SmV) (S : SmS) (I : SmI) : Prop :=
  im_istore 3 l st S I fun l st S I =>
  SW mi_X6_sends 8 d Rq l st S I
theorem rv_X6_sends_7 {d : Nat} {Rq : SmQ} {l : SmL} {st : List SmV} {S : SmS} {I : SmI} (h : tr_X6_sends_7 d Rq l st S I) : SW mi_X6_sends 7 d Rq l st S I :=
  (show SmW mi_X6_sends 7 d Rq (tr_X6_sends_7 d Rq) from
  (xv_istore_n dX6_sends_7 rfl (Nat.le_of_ble_eq_true rfl)
  (fun _ _ _ _ h => h))) l st S I h
def tr_X6_sends_8 (d : Nat) (Rq : SmQ) (l : SmL) (st : List SmV) (S : SmS) (I : SmI) : Prop :=
  im_iload 3 l st S I fun l st S I =>
  im_ic (-4) l st S I fun l st S I =>
  im_ceq l st S I (fun l st S I =>
  im_iload 2 l st S I fun l st S I =>
  im_ireturn Rq l st S I) (fun l st S I =>
  im_aload 0 l st S I fun l st S I =>
  im_iload 3 l st S I fun l st S I =>
  im_callV 1 11 mi_X6_goes d (retK mi_X6_sends 16 19 d Rq l) st S I)
theorem rv_X6_sends_8 {d : Nat} {Rq : SmQ} {l : SmL} {st : List SmV} {S : SmS} {I : SmI} (h : tr_X6_sends_8 d Rq l st S I) : SW mi_X6_sends 8 d Rq l st S I :=
  (show SmW mi_X6_sends 8 d Rq (tr_X6_sends_8 d Rq) from
  (xv_iload_n dX6_sends_8 rfl
  (xv_bipush dX6_sends_9 rfl (inRd rfl)
  (xv_ceq dX6_sends_11 rfl
  (xv_iload_n dX6_sends_31 rfl
  (xv_ireturn dX6_sends_32 rfl))
  (xv_aload_n dX6_sends_14 rfl
  (xv_iload_n dX6_sends_15 rfl
  (xv_callV dX6_sends_16 cl_11 tg_11 ok_X6_goes rfl (lw_V q2194 q2196 qs96 q117 q2197)))))))) l st S I h
def tr_X6_sends_19 (d : Nat) (Rq : SmQ) (l : SmL) (st : List SmV) (S : SmS) (I : SmI) : Prop :=
  im_iinc 2 1 l st S I fun l st S I =>
  im_aload 0 l st S I fun l st S I =>
  im_iload 1 l st S I fun l st S I =>
  im_callV 1 11 mi_X6_firstBy d (retK mi_X6_sends 24 27 d Rq l) st S I
theorem rv_X6_sends_19 {d : Nat} {Rq : SmQ} {l : SmL} {st : List SmV} {S : SmS} {I : SmI} (h : tr_X6_sends_19 d Rq l st S I) : SW mi_X6_sends 19 d Rq l st S I :=
  (show SmW mi_X6_sends 19 d Rq (tr_X6_sends_19 d Rq) from
  (xv_iinc dX6_sends_19 (Nat.le_of_ble_eq_true rfl)
  (xv_aload_n dX6_sends_22 rfl
  (xv_iload_n dX6_sends_23 rfl
  (xv_callV dX6_sends_24 cl_11 tg_11 ok_X6_firstBy rfl (lw_V q2186 q2188 qs94 q117 q2189)))))) l st S I h
def tr_X6_sends_27 (d : Nat) (Rq : SmQ) (l : SmL) (st : List SmV) (S : SmS) (I : SmI) : Prop :=
  im_istore 3 l st S I fun l st S I =>
  SW mi_X6_sends 8 d Rq l st S I
theorem rv_X6_sends_27 {d : Nat} {Rq : SmQ} {l : SmL} {st : List SmV} {S : SmS} {I : SmI} (h : tr_X6_sends_27 d Rq l st S I) : SW mi_X6_sends 27 d Rq l st S I :=
  (show SmW mi_X6_sends 27 d Rq (tr_X6_sends_27 d Rq) from
  (xv_istore_n dX6_sends_27 rfl (Nat.le_of_ble_eq_true rfl)
  (xv_goto dX6_sends_28 rfl (fun _ _ _ _ h => h)))) l st S I h
def tr_X6_planned_0 (d : Nat) (Rq : SmQ) (l : SmL) (st : List SmV) (S : SmS) (I : SmI) : Prop :=
  im_aload 0 l st S I fun l st S I =>
  im_callV 0 11 mi_X6_keepBefore d (retK mi_X6_planned 1 4 d Rq l) st S I
theorem rv_X6_planned_0 {d : Nat} {Rq : SmQ} {l : SmL} {st : List SmV} {S : SmS} {I : SmI} (h : tr_X6_planned_0 d Rq l st S I) : SW mi_X6_planned 0 d Rq l st S I :=
  (show SmW mi_X6_planned 0 d Rq (tr_X6_planned_0 d Rq) from
  (xv_aload_n dX6_planned_0 rfl
  (xv_callV dX6_planned_1 cl_11 tg_11 ok_X6_keepBefore rfl (lw_V q1995 q1997 qs57 q117 q1998)))) l st S I h
def tr_X6_planned_4 (d : Nat) (Rq : SmQ) (l : SmL) (st : List SmV) (S : SmS) (I : SmI) : Prop :=
  im_aload 0 l st S I fun l st S I =>
  im_aload 0 l st S I fun l st S I =>
  im_p_X6_postureNow d l st S I fun l st S I =>
  im_callV 1 11 mi_X6_explore d (retK mi_X6_planned 9 12 d Rq l) st S I
theorem rv_X6_planned_4 {d : Nat} {Rq : SmQ} {l : SmL} {st : List SmV} {S : SmS} {I : SmI} (h : tr_X6_planned_4 d Rq l st S I) : SW mi_X6_planned 4 d Rq l st S I :=
  (show SmW mi_X6_planned 4 d Rq (tr_X6_planned_4 d Rq) from
  (xv_aload_n dX6_planned_4 rfl
  (xv_aload_n dX6_planned_5 rfl
  (xv_p_X6_postureNow dX6_planned_6 (lw_V q2011 q2013 qs61 q117 q2014)
  (xv_callV dX6_planned_9 cl_11 tg_11 ok_X6_explore rfl (lw_V q2049 q2051 qs69 q117 q2052)))))) l st S I h
def tr_X6_planned_12 (d : Nat) (Rq : SmQ) (l : SmL) (st : List SmV) (S : SmS) (I : SmI) : Prop :=
  im_aload 0 l st S I fun l st S I =>
  im_iload 1 l st S I fun l st S I =>
  im_callV 1 11 mi_X6_sends d (retK mi_X6_planned 14 17 d Rq l) st S I
theorem rv_X6_planned_12 {d : Nat} {Rq : SmQ} {l : SmL} {st : List SmV} {S : SmS} {I : SmI} (h : tr_X6_planned_12 d Rq l st S I) : SW mi_X6_planned 12 d Rq l st S I :=
  (show SmW mi_X6_planned 12 d Rq (tr_X6_planned_12 d Rq) from
  (xv_aload_n dX6_planned_12 rfl
  (xv_iload_n dX6_planned_13 rfl
  (xv_callV dX6_planned_14 cl_11 tg_11 ok_X6_sends rfl (lw_V q2182 q2184 qs93 q117 q2185))))) l st S I h
def tr_X6_planned_17 (d : Nat) (Rq : SmQ) (l : SmL) (st : List SmV) (S : SmS) (I : SmI) : Prop :=
  im_pop l st S I fun l st S I =>
  im_ic 0 l st S I fun l st S I =>
  im_istore 3 l st S I fun l st S I =>
  SW mi_X6_planned 20 d Rq l st S I
theorem rv_X6_planned_17 {d : Nat} {Rq : SmQ} {l : SmL} {st : List SmV} {S : SmS} {I : SmI} (h : tr_X6_planned_17 d Rq l st S I) : SW mi_X6_planned 17 d Rq l st S I :=
  (show SmW mi_X6_planned 17 d Rq (tr_X6_planned_17 d Rq) from
  (xv_pop dX6_planned_17
  (xv_iconst dX6_planned_18 rfl (inRd rfl)
  (xv_istore_n dX6_planned_19 rfl (Nat.le_of_ble_eq_true rfl)
  (fun _ _ _ _ h => h))))) l st S I h
def tr_X6_planned_20 (d : Nat) (Rq : SmQ) (l : SmL) (st : List SmV) (S : SmS) (I : SmI) : Prop :=
  im_iload 3 l st S I fun l st S I =>
  im_ic 2000 l st S I fun l st S I =>
  im_cge l st S I (fun l st S I =>
  im_ic 0 l st S I fun l st S I =>
  im_istore 3 l st S I fun l st S I =>
  im_ic 0 l st S I fun l st S I =>
  im_istore 4 l st S I fun l st S I =>
  im_ic 0 l st S I fun l st S I =>
  im_istore 5 l st S I fun l st S I =>
  SW mi_X6_planned 67 d Rq l st S I) (fun l st S I =>
  im_aload 0 l st S I fun l st S I =>
  im_ic 2 l st S I fun l st S I =>
  im_p_X6_withStatus d l st S I fun l st S I =>
  im_aload 0 l st S I fun l st S I =>
  im_getR 11 0 l st S I fun l st S I =>
  im_ic 1 l st S I fun l st S I =>
  im_ald 100 l st S I fun l st S I =>
  im_cge l st S I (fun l st S I =>
  im_ic 0 l st S I fun l st S I =>
  im_istore 3 l st S I fun l st S I =>
  im_ic 0 l st S I fun l st S I =>
  im_istore 4 l st S I fun l st S I =>
  im_ic 0 l st S I fun l st S I =>
  im_istore 5 l st S I fun l st S I =>
  SW mi_X6_planned 67 d Rq l st S I) (fun l st S I =>
  im_aload 0 l st S I fun l st S I =>
  im_ic 1 l st S I fun l st S I =>
  im_callV 1 11 mi_X6_goesOn d (retK mi_X6_planned 43 46 d Rq l) st S I))
theorem rv_X6_planned_20 {d : Nat} {Rq : SmQ} {l : SmL} {st : List SmV} {S : SmS} {I : SmI} (h : tr_X6_planned_20 d Rq l st S I) : SW mi_X6_planned 20 d Rq l st S I :=
  (show SmW mi_X6_planned 20 d Rq (tr_X6_planned_20 d Rq) from
  (xv_iload_n dX6_planned_20 rfl
  (xv_sipush dX6_planned_21 rfl (inRd rfl)
  (xv_cge dX6_planned_24 rfl
  (xv_iconst dX6_planned_59 rfl (inRd rfl)
  (xv_istore_n dX6_planned_60 rfl (Nat.le_of_ble_eq_true rfl)
  (xv_iconst dX6_planned_61 rfl (inRd rfl)
  (xv_istore dX6_planned_62 (Nat.le_of_ble_eq_true rfl)
  (xv_iconst dX6_planned_64 rfl (inRd rfl)
  (xv_istore dX6_planned_65 (Nat.le_of_ble_eq_true rfl)
  (fun _ _ _ _ h => h)))))))
  (xv_aload_n dX6_planned_27 rfl
  (xv_iconst dX6_planned_28 rfl (inRd rfl)
  (xv_p_X6_withStatus dX6_planned_29 (lw_V q2077 q2079 qs74 q117 q2080)
  (xv_aload_n dX6_planned_32 rfl
  (xv_getR (k := 0) dX6_planned_33 cl_11 tg_11 in_X6 (Nat.le_of_ble_eq_true rfl) rfl q1862
  (xv_iconst dX6_planned_36 rfl (inRd rfl)
  (xv_iald dX6_planned_37
  (xv_cge dX6_planned_38 rfl
  (xv_iconst dX6_planned_59 rfl (inRd rfl)
  (xv_istore_n dX6_planned_60 rfl (Nat.le_of_ble_eq_true rfl)
  (xv_iconst dX6_planned_61 rfl (inRd rfl)
  (xv_istore dX6_planned_62 (Nat.le_of_ble_eq_true rfl)
  (xv_iconst dX6_planned_64 rfl (inRd rfl)
  (xv_istore dX6_planned_65 (Nat.le_of_ble_eq_true rfl)
  (fun _ _ _ _ h => h)))))))
  (xv_aload_n dX6_planned_41 rfl
  (xv_iconst dX6_planned_42 rfl (inRd rfl)
  (xv_callV dX6_planned_43 cl_11 tg_11 ok_X6_goesOn rfl (lw_V q2206 q2208 qs99 q117 q2209)))))))))))))))) l st S I h
def tr_X6_planned_46 (d : Nat) (Rq : SmQ) (l : SmL) (st : List SmV) (S : SmS) (I : SmI) : Prop :=
  im_pop l st S I fun l st S I =>
  im_aload 0 l st S I fun l st S I =>
  im_iload 1 l st S I fun l st S I =>
  im_callV 1 11 mi_X6_sends d (retK mi_X6_planned 49 52 d Rq l) st S I
theorem rv_X6_planned_46 {d : Nat} {Rq : SmQ} {l : SmL} {st : List SmV} {S : SmS} {I : SmI} (h : tr_X6_planned_46 d Rq l st S I) : SW mi_X6_planned 46 d Rq l st S I :=
  (show SmW mi_X6_planned 46 d Rq (tr_X6_planned_46 d Rq) from
  (xv_pop dX6_planned_46
  (xv_aload_n dX6_planned_47 rfl
  (xv_iload_n dX6_planned_48 rfl
  (xv_callV dX6_planned_49 cl_11 tg_11 ok_X6_sends rfl (lw_V q2182 q2184 qs93 q117 q2185)))))) l st S I h
def tr_X6_planned_52 (d : Nat) (Rq : SmQ) (l : SmL) (st : List SmV) (S : SmS) (I : SmI) : Prop :=
  im_pop l st S I fun l st S I =>
  im_iinc 3 1 l st S I fun l st S I =>
  SW mi_X6_planned 20 d Rq l st S I
theorem rv_X6_planned_52 {d : Nat} {Rq : SmQ} {l : SmL} {st : List SmV} {S : SmS} {I : SmI} (h : tr_X6_planned_52 d Rq l st S I) : SW mi_X6_planned 52 d Rq l st S I :=
  (show SmW mi_X6_planned 52 d Rq (tr_X6_planned_52 d Rq) from
  (xv_pop dX6_planned_52
  (xv_iinc dX6_planned_53 (Nat.le_of_ble_eq_true rfl)
  (xv_goto dX6_planned_56 rfl (fun _ _ _ _ h => h))))) l st S I h
def tr_X6_planned_67 (d : Nat) (Rq : SmQ) (l : SmL) (st : List SmV) (S : SmS) (I : SmI) : Prop :=
  im_iload 5 l st S I fun l st S I =>
  im_aload 0 l st S I fun l st S I =>
  im_getR 11 0 l st S I fun l st S I =>
  im_ic 1 l st S I fun l st S I =>
  im_ald 100 l st S I fun l st S I =>
  im_cge l st S I (fun l st S I =>
  im_aload 0 l st S I fun l st S I =>
  im_callV 0 11 mi_X6_backBefore d (retK mi_X6_planned 120 123 d Rq l) st S I) (fun l st S I =>
  im_iload 4 l st S I fun l st S I =>
  im_aload 0 l st S I fun l st S I =>
  im_iload 5 l st S I fun l st S I =>
  im_ic 5 l st S I fun l st S I =>
  im_p_X6_ofTrain d l st S I fun l st S I =>
  im_iadd l st S I fun l st S I =>
  im_istore 4 l st S I fun l st S I =>
  im_aload 0 l st S I fun l st S I =>
  im_iload 5 l st S I fun l st S I =>
  im_ic 5 l st S I fun l st S I =>
  im_p_X6_ofTrain d l st S I fun l st S I =>
  im_iload 3 l st S I fun l st S I =>
  im_cle l st S I (fun l st S I =>
  im_iload 3 l st S I fun l st S I =>
  im_istore 3 l st S I fun l st S I =>
  im_iinc 5 1 l st S I fun l st S I =>
  SW mi_X6_planned 67 d Rq l st S I) (fun l st S I =>
  im_aload 0 l st S I fun l st S I =>
  im_iload 5 l st S I fun l st S I =>
  im_ic 5 l st S I fun l st S I =>
  im_p_X6_ofTrain d l st S I fun l st S I =>
  im_istore 3 l st S I fun l st S I =>
  im_iinc 5 1 l st S I fun l st S I =>
  SW mi_X6_planned 67 d Rq l st S I))
theorem rv_X6_planned_67 {d : Nat} {Rq : SmQ} {l : SmL} {st : List SmV} {S : SmS} {I : SmI} (h : tr_X6_planned_67 d Rq l st S I) : SW mi_X6_planned 67 d Rq l st S I :=
  (show SmW mi_X6_planned 67 d Rq (tr_X6_planned_67 d Rq) from
  (xv_iload dX6_planned_67
  (xv_aload_n dX6_planned_69 rfl
  (xv_getR (k := 0) dX6_planned_70 cl_11 tg_11 in_X6 (Nat.le_of_ble_eq_true rfl) rfl q1862
  (xv_iconst dX6_planned_73 rfl (inRd rfl)
  (xv_iald dX6_planned_74
  (xv_cge dX6_planned_75 rfl
  (xv_aload_n dX6_planned_119 rfl
  (xv_callV dX6_planned_120 cl_11 tg_11 ok_X6_backBefore rfl (lw_V q2065 q2067 qs73 q117 q2068)))
  (xv_iload dX6_planned_78
  (xv_aload_n dX6_planned_80 rfl
  (xv_iload dX6_planned_81
  (xv_iconst dX6_planned_83 rfl (inRd rfl)
  (xv_p_X6_ofTrain dX6_planned_84 (lw_V q2003 q2005 qs59 q117 q2006)
  (xv_iadd dX6_planned_87
  (xv_istore dX6_planned_88 (Nat.le_of_ble_eq_true rfl)
  (xv_aload_n dX6_planned_90 rfl
  (xv_iload dX6_planned_91
  (xv_iconst dX6_planned_93 rfl (inRd rfl)
  (xv_p_X6_ofTrain dX6_planned_94 (lw_V q2003 q2005 qs59 q117 q2006)
  (xv_iload_n dX6_planned_97 rfl
  (xv_cle dX6_planned_98 rfl
  (xv_iload_n dX6_planned_111 rfl
  (xv_istore_n dX6_planned_112 rfl (Nat.le_of_ble_eq_true rfl)
  (xv_iinc dX6_planned_113 (Nat.le_of_ble_eq_true rfl)
  (xv_goto dX6_planned_116 rfl (fun _ _ _ _ h => h)))))
  (xv_aload_n dX6_planned_101 rfl
  (xv_iload dX6_planned_102
  (xv_iconst dX6_planned_104 rfl (inRd rfl)
  (xv_p_X6_ofTrain dX6_planned_105 (lw_V q2003 q2005 qs59 q117 q2006)
  (xv_goto dX6_planned_108 rfl (xv_istore_n dX6_planned_112 rfl (Nat.le_of_ble_eq_true rfl)
  (xv_iinc dX6_planned_113 (Nat.le_of_ble_eq_true rfl)
  (xv_goto dX6_planned_116 rfl (fun _ _ _ _ h => h))))))))))))))))))))))))))))) l st S I h
def tr_X6_planned_123 (d : Nat) (Rq : SmQ) (l : SmL) (st : List SmV) (S : SmS) (I : SmI) : Prop :=
  im_iload 2 l st S I fun l st S I =>
  im_zne l st S I (fun l st S I =>
  im_iload 4 l st S I fun l st S I =>
  im_ireturn Rq l st S I) (fun l st S I =>
  im_iload 3 l st S I fun l st S I =>
  im_ireturn Rq l st S I)
theorem rv_X6_planned_123 {d : Nat} {Rq : SmQ} {l : SmL} {st : List SmV} {S : SmS} {I : SmI} (h : tr_X6_planned_123 d Rq l st S I) : SW mi_X6_planned 123 d Rq l st S I :=
  (show SmW mi_X6_planned 123 d Rq (tr_X6_planned_123 d Rq) from
  (xv_iload_n dX6_planned_123 rfl
  (xv_zne dX6_planned_124 rfl
  (xv_iload dX6_planned_131
  (xv_ireturn dX6_planned_133 rfl))
  (xv_iload_n dX6_planned_127 rfl
  (xv_goto dX6_planned_128 rfl (xv_ireturn dX6_planned_133 rfl)))))) l st S I h
def tr_X6_plan_0 (d : Nat) (Rq : SmQ) (l : SmL) (st : List SmV) (S : SmS) (I : SmI) : Prop :=
  im_iload 1 l st S I fun l st S I =>
  im_i2l l st S I fun l st S I =>
  im_lc 0 l st S I fun l st S I =>
  im_lc 2 l st S I fun l st S I =>
  im_p_X6_in d l st S I fun l st S I =>
  im_zeq l st S I (fun l st S I =>
  im_ic (-1) l st S I fun l st S I =>
  im_ireturn Rq l st S I) (fun l st S I =>
  im_iload 2 l st S I fun l st S I =>
  im_i2l l st S I fun l st S I =>
  im_lc 0 l st S I fun l st S I =>
  im_lc 1 l st S I fun l st S I =>
  im_p_X6_in d l st S I fun l st S I =>
  im_zeq l st S I (fun l st S I =>
  im_ic (-1) l st S I fun l st S I =>
  im_ireturn Rq l st S I) (fun l st S I =>
  im_aload 0 l st S I fun l st S I =>
  im_iload 1 l st S I fun l st S I =>
  im_iload 2 l st S I fun l st S I =>
  im_callV 2 11 mi_X6_planned d (retK mi_X6_plan 25 28 d Rq l) st S I))
theorem rv_X6_plan_0 {d : Nat} {Rq : SmQ} {l : SmL} {st : List SmV} {S : SmS} {I : SmI} (h : tr_X6_plan_0 d Rq l st S I) : SW mi_X6_plan 0 d Rq l st S I :=
  (show SmW mi_X6_plan 0 d Rq (tr_X6_plan_0 d Rq) from
  (xv_iload_n dX6_plan_0 rfl
  (xv_i2l dX6_plan_1
  (xv_lconst dX6_plan_2 rfl (inR64d rfl)
  (xv_ldc2 dX6_plan_3 q2177 rfl (inR64d rfl)
  (xv_p_X6_in dX6_plan_6 (lw_S q1940 q1941 q117 q1942)
  (xv_zeq dX6_plan_9 rfl
  (xv_iconst dX6_plan_31 rfl (inRd rfl)
  (xv_ireturn dX6_plan_32 rfl))
  (xv_iload_n dX6_plan_12 rfl
  (xv_i2l dX6_plan_13
  (xv_lconst dX6_plan_14 rfl (inR64d rfl)
  (xv_lconst dX6_plan_15 rfl (inR64d rfl)
  (xv_p_X6_in dX6_plan_16 (lw_S q1940 q1941 q117 q1942)
  (xv_zeq dX6_plan_19 rfl
  (xv_iconst dX6_plan_31 rfl (inRd rfl)
  (xv_ireturn dX6_plan_32 rfl))
  (xv_aload_n dX6_plan_22 rfl
  (xv_iload_n dX6_plan_23 rfl
  (xv_iload_n dX6_plan_24 rfl
  (xv_callV dX6_plan_25 cl_11 tg_11 ok_X6_planned rfl (lw_V q2178 q2180 qs92 q117 q2181)))))))))))))))))) l st S I h
def tr_X6_plan_28 (d : Nat) (Rq : SmQ) (l : SmL) (st : List SmV) (S : SmS) (I : SmI) : Prop :=
  im_ireturn Rq l st S I
theorem rv_X6_plan_28 {d : Nat} {Rq : SmQ} {l : SmL} {st : List SmV} {S : SmS} {I : SmI} (h : tr_X6_plan_28 d Rq l st S I) : SW mi_X6_plan 28 d Rq l st S I :=
  (show SmW mi_X6_plan 28 d Rq (tr_X6_plan_28 d Rq) from
  (xv_goto dX6_plan_28 rfl (xv_ireturn dX6_plan_32 rfl))) l st S I h
def tr_X6_best_0 (d : Nat) (Rq : SmQ) (l : SmL) (st : List SmV) (S : SmS) (I : SmI) : Prop :=
  im_aload 0 l st S I fun l st S I =>
  im_getR 11 0 l st S I fun l st S I =>
  im_ic 1 l st S I fun l st S I =>
  im_ald 100 l st S I fun l st S I =>
  im_zne l st S I (fun l st S I =>
  im_ic 0 l st S I fun l st S I =>
  im_istore 1 l st S I fun l st S I =>
  im_aload 0 l st S I fun l st S I =>
  im_ic 0 l st S I fun l st S I =>
  im_ic 1 l st S I fun l st S I =>
  im_callV 2 11 mi_X6_planned d (retK mi_X6_best 17 20 d Rq l) st S I) (fun l st S I =>
  im_ic (-4) l st S I fun l st S I =>
  im_ireturn Rq l st S I)
theorem rv_X6_best_0 {d : Nat} {Rq : SmQ} {l : SmL} {st : List SmV} {S : SmS} {I : SmI} (h : tr_X6_best_0 d Rq l st S I) : SW mi_X6_best 0 d Rq l st S I :=
  (show SmW mi_X6_best 0 d Rq (tr_X6_best_0 d Rq) from
  (xv_aload_n dX6_best_0 rfl
  (xv_getR (k := 0) dX6_best_1 cl_11 tg_11 in_X6 (Nat.le_of_ble_eq_true rfl) rfl q1862
  (xv_iconst dX6_best_4 rfl (inRd rfl)
  (xv_iald dX6_best_5
  (xv_zne dX6_best_6 rfl
  (xv_iconst dX6_best_12 rfl (inRd rfl)
  (xv_istore_n dX6_best_13 rfl (Nat.le_of_ble_eq_true rfl)
  (xv_aload_n dX6_best_14 rfl
  (xv_iconst dX6_best_15 rfl (inRd rfl)
  (xv_iconst dX6_best_16 rfl (inRd rfl)
  (xv_callV dX6_best_17 cl_11 tg_11 ok_X6_planned rfl (lw_V q2178 q2180 qs92 q117 q2181)))))))
  (xv_bipush dX6_best_9 rfl (inRd rfl)
  (xv_ireturn dX6_best_11 rfl)))))))) l st S I h
def tr_X6_best_20 (d : Nat) (Rq : SmQ) (l : SmL) (st : List SmV) (S : SmS) (I : SmI) : Prop :=
  im_istore 2 l st S I fun l st S I =>
  im_ic 1 l st S I fun l st S I =>
  im_istore 3 l st S I fun l st S I =>
  SW mi_X6_best 23 d Rq l st S I
theorem rv_X6_best_20 {d : Nat} {Rq : SmQ} {l : SmL} {st : List SmV} {S : SmS} {I : SmI} (h : tr_X6_best_20 d Rq l st S I) : SW mi_X6_best 20 d Rq l st S I :=
  (show SmW mi_X6_best 20 d Rq (tr_X6_best_20 d Rq) from
  (xv_istore_n dX6_best_20 rfl (Nat.le_of_ble_eq_true rfl)
  (xv_iconst dX6_best_21 rfl (inRd rfl)
  (xv_istore_n dX6_best_22 rfl (Nat.le_of_ble_eq_true rfl)
  (fun _ _ _ _ h => h))))) l st S I h
def tr_X6_best_23 (d : Nat) (Rq : SmQ) (l : SmL) (st : List SmV) (S : SmS) (I : SmI) : Prop :=
  im_iload 3 l st S I fun l st S I =>
  im_ic 3 l st S I fun l st S I =>
  im_cge l st S I (fun l st S I =>
  im_iload 1 l st S I fun l st S I =>
  im_ireturn Rq l st S I) (fun l st S I =>
  im_aload 0 l st S I fun l st S I =>
  im_iload 3 l st S I fun l st S I =>
  im_ic 1 l st S I fun l st S I =>
  im_callV 2 11 mi_X6_planned d (retK mi_X6_best 31 34 d Rq l) st S I)
theorem rv_X6_best_23 {d : Nat} {Rq : SmQ} {l : SmL} {st : List SmV} {S : SmS} {I : SmI} (h : tr_X6_best_23 d Rq l st S I) : SW mi_X6_best 23 d Rq l st S I :=
  (show SmW mi_X6_best 23 d Rq (tr_X6_best_23 d Rq) from
  (xv_iload_n dX6_best_23 rfl
  (xv_iconst dX6_best_24 rfl (inRd rfl)
  (xv_cge dX6_best_25 rfl
  (xv_iload_n dX6_best_53 rfl
  (xv_ireturn dX6_best_54 rfl))
  (xv_aload_n dX6_best_28 rfl
  (xv_iload_n dX6_best_29 rfl
  (xv_iconst dX6_best_30 rfl (inRd rfl)
  (xv_callV dX6_best_31 cl_11 tg_11 ok_X6_planned rfl (lw_V q2178 q2180 qs92 q117 q2181))))))))) l st S I h
def tr_X6_best_34 (d : Nat) (Rq : SmQ) (l : SmL) (st : List SmV) (S : SmS) (I : SmI) : Prop :=
  im_istore 4 l st S I fun l st S I =>
  im_iload 4 l st S I fun l st S I =>
  im_iload 2 l st S I fun l st S I =>
  im_cge l st S I (fun l st S I =>
  im_iinc 3 1 l st S I fun l st S I =>
  SW mi_X6_best 23 d Rq l st S I) (fun l st S I =>
  im_iload 3 l st S I fun l st S I =>
  im_istore 1 l st S I fun l st S I =>
  im_iload 4 l st S I fun l st S I =>
  im_istore 2 l st S I fun l st S I =>
  im_iinc 3 1 l st S I fun l st S I =>
  SW mi_X6_best 23 d Rq l st S I)
theorem rv_X6_best_34 {d : Nat} {Rq : SmQ} {l : SmL} {st : List SmV} {S : SmS} {I : SmI} (h : tr_X6_best_34 d Rq l st S I) : SW mi_X6_best 34 d Rq l st S I :=
  (show SmW mi_X6_best 34 d Rq (tr_X6_best_34 d Rq) from
  (xv_istore dX6_best_34 (Nat.le_of_ble_eq_true rfl)
  (xv_iload dX6_best_36
  (xv_iload_n dX6_best_38 rfl
  (xv_cge dX6_best_39 rfl
  (xv_iinc dX6_best_47 (Nat.le_of_ble_eq_true rfl)
  (xv_goto dX6_best_50 rfl (fun _ _ _ _ h => h)))
  (xv_iload_n dX6_best_42 rfl
  (xv_istore_n dX6_best_43 rfl (Nat.le_of_ble_eq_true rfl)
  (xv_iload dX6_best_44
  (xv_istore_n dX6_best_46 rfl (Nat.le_of_ble_eq_true rfl)
  (xv_iinc dX6_best_47 (Nat.le_of_ble_eq_true rfl)
  (xv_goto dX6_best_50 rfl (fun _ _ _ _ h => h)))))))))))) l st S I h
def tr_X6_let_0 (d : Nat) (Rq : SmQ) (l : SmL) (st : List SmV) (S : SmS) (I : SmI) : Prop :=
  im_aload 0 l st S I fun l st S I =>
  im_iload 1 l st S I fun l st S I =>
  im_p_X6_isTrain d l st S I fun l st S I =>
  im_zne l st S I (fun l st S I =>
  im_aload 0 l st S I fun l st S I =>
  im_aload 0 l st S I fun l st S I =>
  im_p_X6_postureNow d l st S I fun l st S I =>
  im_callV 1 11 mi_X6_explore d (retK mi_X6_let 15 18 d Rq l) st S I) (fun l st S I =>
  im_ic (-1) l st S I fun l st S I =>
  im_ireturn Rq l st S I)
theorem rv_X6_let_0 {d : Nat} {Rq : SmQ} {l : SmL} {st : List SmV} {S : SmS} {I : SmI} (h : tr_X6_let_0 d Rq l st S I) : SW mi_X6_let 0 d Rq l st S I :=
  (show SmW mi_X6_let 0 d Rq (tr_X6_let_0 d Rq) from
  (xv_aload_n dX6_let_0 rfl
  (xv_iload_n dX6_let_1 rfl
  (xv_p_X6_isTrain dX6_let_2 (lw_V q2133 q2135 qs86 q117 q2136)
  (xv_zne dX6_let_5 rfl
  (xv_aload_n dX6_let_10 rfl
  (xv_aload_n dX6_let_11 rfl
  (xv_p_X6_postureNow dX6_let_12 (lw_V q2011 q2013 qs61 q117 q2014)
  (xv_callV dX6_let_15 cl_11 tg_11 ok_X6_explore rfl (lw_V q2049 q2051 qs69 q117 q2052)))))
  (xv_iconst dX6_let_8 rfl (inRd rfl)
  (xv_ireturn dX6_let_9 rfl))))))) l st S I h
def tr_X6_let_18 (d : Nat) (Rq : SmQ) (l : SmL) (st : List SmV) (S : SmS) (I : SmI) : Prop :=
  im_aload 0 l st S I fun l st S I =>
  im_iload 1 l st S I fun l st S I =>
  im_callV 1 11 mi_X6_against d (retK mi_X6_let 20 23 d Rq l) st S I
theorem rv_X6_let_18 {d : Nat} {Rq : SmQ} {l : SmL} {st : List SmV} {S : SmS} {I : SmI} (h : tr_X6_let_18 d Rq l st S I) : SW mi_X6_let 18 d Rq l st S I :=
  (show SmW mi_X6_let 18 d Rq (tr_X6_let_18 d Rq) from
  (xv_aload_n dX6_let_18 rfl
  (xv_iload_n dX6_let_19 rfl
  (xv_callV dX6_let_20 cl_11 tg_11 ok_X6_against rfl (lw_V q2101 q2103 qs80 q117 q2104))))) l st S I h
def tr_X6_let_23 (d : Nat) (Rq : SmQ) (l : SmL) (st : List SmV) (S : SmS) (I : SmI) : Prop :=
  im_zeq l st S I (fun l st S I =>
  im_aload 0 l st S I fun l st S I =>
  im_iload 1 l st S I fun l st S I =>
  im_callV 1 11 mi_X6_goes d (retK mi_X6_let 31 34 d Rq l) st S I) (fun l st S I =>
  im_ic (-2) l st S I fun l st S I =>
  im_ireturn Rq l st S I)
theorem rv_X6_let_23 {d : Nat} {Rq : SmQ} {l : SmL} {st : List SmV} {S : SmS} {I : SmI} (h : tr_X6_let_23 d Rq l st S I) : SW mi_X6_let 23 d Rq l st S I :=
  (show SmW mi_X6_let 23 d Rq (tr_X6_let_23 d Rq) from
  (xv_zeq dX6_let_23 rfl
  (xv_aload_n dX6_let_29 rfl
  (xv_iload_n dX6_let_30 rfl
  (xv_callV dX6_let_31 cl_11 tg_11 ok_X6_goes rfl (lw_V q2194 q2196 qs96 q117 q2197))))
  (xv_bipush dX6_let_26 rfl (inRd rfl)
  (xv_ireturn dX6_let_28 rfl)))) l st S I h
def tr_X6_let_34 (d : Nat) (Rq : SmQ) (l : SmL) (st : List SmV) (S : SmS) (I : SmI) : Prop :=
  im_aload 0 l st S I fun l st S I =>
  im_iload 1 l st S I fun l st S I =>
  im_ic 5 l st S I fun l st S I =>
  im_p_X6_ofTrain d l st S I fun l st S I =>
  im_ireturn Rq l st S I
theorem rv_X6_let_34 {d : Nat} {Rq : SmQ} {l : SmL} {st : List SmV} {S : SmS} {I : SmI} (h : tr_X6_let_34 d Rq l st S I) : SW mi_X6_let 34 d Rq l st S I :=
  (show SmW mi_X6_let 34 d Rq (tr_X6_let_34 d Rq) from
  (xv_aload_n dX6_let_34 rfl
  (xv_iload_n dX6_let_35 rfl
  (xv_iconst dX6_let_36 rfl (inRd rfl)
  (xv_p_X6_ofTrain dX6_let_37 (lw_V q2003 q2005 qs59 q117 q2006)
  (xv_ireturn dX6_let_40 rfl)))))) l st S I h
def tr_X6_tick_0 (d : Nat) (Rq : SmQ) (l : SmL) (st : List SmV) (S : SmS) (I : SmI) : Prop :=
  im_iload 1 l st S I fun l st S I =>
  im_i2l l st S I fun l st S I =>
  im_lc 1 l st S I fun l st S I =>
  im_lc 60 l st S I fun l st S I =>
  im_p_X6_in d l st S I fun l st S I =>
  im_zeq l st S I (fun l st S I =>
  im_ic (-1) l st S I fun l st S I =>
  im_ireturn Rq l st S I) (fun l st S I =>
  im_aload 0 l st S I fun l st S I =>
  im_iload 1 l st S I fun l st S I =>
  im_callV 1 11 mi_X6_goesOn d (retK mi_X6_tick 14 17 d Rq l) st S I)
theorem rv_X6_tick_0 {d : Nat} {Rq : SmQ} {l : SmL} {st : List SmV} {S : SmS} {I : SmI} (h : tr_X6_tick_0 d Rq l st S I) : SW mi_X6_tick 0 d Rq l st S I :=
  (show SmW mi_X6_tick 0 d Rq (tr_X6_tick_0 d Rq) from
  (xv_iload_n dX6_tick_0 rfl
  (xv_i2l dX6_tick_1
  (xv_lconst dX6_tick_2 rfl (inR64d rfl)
  (xv_ldc2 dX6_tick_3 q2222 rfl (inR64d rfl)
  (xv_p_X6_in dX6_tick_6 (lw_S q1940 q1941 q117 q1942)
  (xv_zeq dX6_tick_9 rfl
  (xv_iconst dX6_tick_20 rfl (inRd rfl)
  (xv_ireturn dX6_tick_21 rfl))
  (xv_aload_n dX6_tick_12 rfl
  (xv_iload_n dX6_tick_13 rfl
  (xv_callV dX6_tick_14 cl_11 tg_11 ok_X6_goesOn rfl (lw_V q2206 q2208 qs99 q117 q2209))))))))))) l st S I h
def tr_X6_tick_17 (d : Nat) (Rq : SmQ) (l : SmL) (st : List SmV) (S : SmS) (I : SmI) : Prop :=
  im_ireturn Rq l st S I
theorem rv_X6_tick_17 {d : Nat} {Rq : SmQ} {l : SmL} {st : List SmV} {S : SmS} {I : SmI} (h : tr_X6_tick_17 d Rq l st S I) : SW mi_X6_tick 17 d Rq l st S I :=
  (show SmW mi_X6_tick 17 d Rq (tr_X6_tick_17 d Rq) from
  (xv_goto dX6_tick_17 rfl (xv_ireturn dX6_tick_21 rfl))) l st S I h
def tr_X6_send_0 (d : Nat) (Rq : SmQ) (l : SmL) (st : List SmV) (S : SmS) (I : SmI) : Prop :=
  im_iload 1 l st S I fun l st S I =>
  im_i2l l st S I fun l st S I =>
  im_lc 0 l st S I fun l st S I =>
  im_lc 2 l st S I fun l st S I =>
  im_p_X6_in d l st S I fun l st S I =>
  im_zne l st S I (fun l st S I =>
  im_aload 0 l st S I fun l st S I =>
  im_aload 0 l st S I fun l st S I =>
  im_p_X6_postureNow d l st S I fun l st S I =>
  im_callV 1 11 mi_X6_explore d (retK mi_X6_send 19 22 d Rq l) st S I) (fun l st S I =>
  im_ic (-1) l st S I fun l st S I =>
  im_ireturn Rq l st S I)
theorem rv_X6_send_0 {d : Nat} {Rq : SmQ} {l : SmL} {st : List SmV} {S : SmS} {I : SmI} (h : tr_X6_send_0 d Rq l st S I) : SW mi_X6_send 0 d Rq l st S I :=
  (show SmW mi_X6_send 0 d Rq (tr_X6_send_0 d Rq) from
  (xv_iload_n dX6_send_0 rfl
  (xv_i2l dX6_send_1
  (xv_lconst dX6_send_2 rfl (inR64d rfl)
  (xv_ldc2 dX6_send_3 q2177 rfl (inR64d rfl)
  (xv_p_X6_in dX6_send_6 (lw_S q1940 q1941 q117 q1942)
  (xv_zne dX6_send_9 rfl
  (xv_aload_n dX6_send_14 rfl
  (xv_aload_n dX6_send_15 rfl
  (xv_p_X6_postureNow dX6_send_16 (lw_V q2011 q2013 qs61 q117 q2014)
  (xv_callV dX6_send_19 cl_11 tg_11 ok_X6_explore rfl (lw_V q2049 q2051 qs69 q117 q2052)))))
  (xv_iconst dX6_send_12 rfl (inRd rfl)
  (xv_ireturn dX6_send_13 rfl))))))))) l st S I h
def tr_X6_send_22 (d : Nat) (Rq : SmQ) (l : SmL) (st : List SmV) (S : SmS) (I : SmI) : Prop :=
  im_aload 0 l st S I fun l st S I =>
  im_iload 1 l st S I fun l st S I =>
  im_callV 1 11 mi_X6_sends d (retK mi_X6_send 24 27 d Rq l) st S I
theorem rv_X6_send_22 {d : Nat} {Rq : SmQ} {l : SmL} {st : List SmV} {S : SmS} {I : SmI} (h : tr_X6_send_22 d Rq l st S I) : SW mi_X6_send 22 d Rq l st S I :=
  (show SmW mi_X6_send 22 d Rq (tr_X6_send_22 d Rq) from
  (xv_aload_n dX6_send_22 rfl
  (xv_iload_n dX6_send_23 rfl
  (xv_callV dX6_send_24 cl_11 tg_11 ok_X6_sends rfl (lw_V q2182 q2184 qs93 q117 q2185))))) l st S I h
def tr_X6_send_27 (d : Nat) (Rq : SmQ) (l : SmL) (st : List SmV) (S : SmS) (I : SmI) : Prop :=
  im_ireturn Rq l st S I
theorem rv_X6_send_27 {d : Nat} {Rq : SmQ} {l : SmL} {st : List SmV} {S : SmS} {I : SmI} (h : tr_X6_send_27 d Rq l st S I) : SW mi_X6_send 27 d Rq l st S I :=
  (show SmW mi_X6_send 27 d Rq (tr_X6_send_27 d Rq) from
  (xv_ireturn dX6_send_27 rfl)) l st S I h
def tr_X6_add_0 (d : Nat) (Rq : SmQ) (l : SmL) (st : List SmV) (S : SmS) (I : SmI) : Prop :=
  im_aload 0 l st S I fun l st S I =>
  im_iload 1 l st S I fun l st S I =>
  im_iload 2 l st S I fun l st S I =>
  im_iload 3 l st S I fun l st S I =>
  im_p_X6_isGood d l st S I fun l st S I =>
  im_zne l st S I (fun l st S I =>
  im_aload 0 l st S I fun l st S I =>
  im_getR 11 0 l st S I fun l st S I =>
  im_ic 1 l st S I fun l st S I =>
  im_ald 100 l st S I fun l st S I =>
  im_ic 4 l st S I fun l st S I =>
  im_cne l st S I (fun l st S I =>
  im_ic 34 l st S I fun l st S I =>
  im_ic 6 l st S I fun l st S I =>
  im_aload 0 l st S I fun l st S I =>
  im_getR 11 0 l st S I fun l st S I =>
  im_ic 1 l st S I fun l st S I =>
  im_ald 100 l st S I fun l st S I =>
  im_imul l st S I fun l st S I =>
  im_iadd l st S I fun l st S I =>
  im_istore 4 l st S I fun l st S I =>
  im_aload 0 l st S I fun l st S I =>
  im_getR 11 0 l st S I fun l st S I =>
  im_iload 4 l st S I fun l st S I =>
  im_ic 0 l st S I fun l st S I =>
  im_iadd l st S I fun l st S I =>
  im_iload 1 l st S I fun l st S I =>
  im_iast l st S I fun l st S I =>
  im_aload 0 l st S I fun l st S I =>
  im_getR 11 0 l st S I fun l st S I =>
  im_iload 4 l st S I fun l st S I =>
  im_ic 1 l st S I fun l st S I =>
  im_iadd l st S I fun l st S I =>
  im_iload 2 l st S I fun l st S I =>
  im_iast l st S I fun l st S I =>
  im_aload 0 l st S I fun l st S I =>
  im_getR 11 0 l st S I fun l st S I =>
  im_iload 4 l st S I fun l st S I =>
  im_ic 2 l st S I fun l st S I =>
  im_iadd l st S I fun l st S I =>
  im_iload 3 l st S I fun l st S I =>
  im_iast l st S I fun l st S I =>
  im_aload 0 l st S I fun l st S I =>
  im_getR 11 0 l st S I fun l st S I =>
  im_iload 4 l st S I fun l st S I =>
  im_ic 3 l st S I fun l st S I =>
  im_iadd l st S I fun l st S I =>
  im_iload 1 l st S I fun l st S I =>
  im_iast l st S I fun l st S I =>
  im_aload 0 l st S I fun l st S I =>
  im_getR 11 0 l st S I fun l st S I =>
  im_iload 4 l st S I fun l st S I =>
  im_ic 4 l st S I fun l st S I =>
  im_iadd l st S I fun l st S I =>
  im_ic 0 l st S I fun l st S I =>
  im_iast l st S I fun l st S I =>
  im_aload 0 l st S I fun l st S I =>
  im_getR 11 0 l st S I fun l st S I =>
  im_iload 4 l st S I fun l st S I =>
  im_ic 5 l st S I fun l st S I =>
  im_iadd l st S I fun l st S I =>
  im_ic (-4) l st S I fun l st S I =>
  im_iast l st S I fun l st S I =>
  im_aload 0 l st S I fun l st S I =>
  im_getR 11 0 l st S I fun l st S I =>
  im_ic 1 l st S I fun l st S I =>
  im_dup2 l st S I fun l st S I =>
  im_ald 100 l st S I fun l st S I =>
  im_ic 1 l st S I fun l st S I =>
  im_iadd l st S I fun l st S I =>
  im_iast l st S I fun l st S I =>
  im_aload 0 l st S I fun l st S I =>
  im_callV 0 11 mi_X6_isHeldAll d (retK mi_X6_add 111 114 d Rq l) st S I) (fun l st S I =>
  im_ic (-3) l st S I fun l st S I =>
  im_ireturn Rq l st S I)) (fun l st S I =>
  im_ic (-1) l st S I fun l st S I =>
  im_ireturn Rq l st S I)
theorem rv_X6_add_0 {d : Nat} {Rq : SmQ} {l : SmL} {st : List SmV} {S : SmS} {I : SmI} (h : tr_X6_add_0 d Rq l st S I) : SW mi_X6_add 0 d Rq l st S I :=
  (show SmW mi_X6_add 0 d Rq (tr_X6_add_0 d Rq) from
  (xv_aload_n dX6_add_0 rfl
  (xv_iload_n dX6_add_1 rfl
  (xv_iload_n dX6_add_2 rfl
  (xv_iload_n dX6_add_3 rfl
  (xv_p_X6_isGood dX6_add_4 (lw_V q2235 q2237 qs100 q117 q2238)
  (xv_zne dX6_add_7 rfl
  (xv_aload_n dX6_add_12 rfl
  (xv_getR (k := 0) dX6_add_13 cl_11 tg_11 in_X6 (Nat.le_of_ble_eq_true rfl) rfl q1862
  (xv_iconst dX6_add_16 rfl (inRd rfl)
  (xv_iald dX6_add_17
  (xv_iconst dX6_add_18 rfl (inRd rfl)
  (xv_cne dX6_add_19 rfl
  (xv_bipush dX6_add_25 rfl (inRd rfl)
  (xv_bipush dX6_add_27 rfl (inRd rfl)
  (xv_aload_n dX6_add_29 rfl
  (xv_getR (k := 0) dX6_add_30 cl_11 tg_11 in_X6 (Nat.le_of_ble_eq_true rfl) rfl q1862
  (xv_iconst dX6_add_33 rfl (inRd rfl)
  (xv_iald dX6_add_34
  (xv_imul dX6_add_35
  (xv_iadd dX6_add_36
  (xv_istore dX6_add_37 (Nat.le_of_ble_eq_true rfl)
  (xv_aload_n dX6_add_39 rfl
  (xv_getR (k := 0) dX6_add_40 cl_11 tg_11 in_X6 (Nat.le_of_ble_eq_true rfl) rfl q1862
  (xv_iload dX6_add_43
  (xv_iconst dX6_add_45 rfl (inRd rfl)
  (xv_iadd dX6_add_46
  (xv_iload_n dX6_add_47 rfl
  (xv_iast dX6_add_48
  (xv_aload_n dX6_add_49 rfl
  (xv_getR (k := 0) dX6_add_50 cl_11 tg_11 in_X6 (Nat.le_of_ble_eq_true rfl) rfl q1862
  (xv_iload dX6_add_53
  (xv_iconst dX6_add_55 rfl (inRd rfl)
  (xv_iadd dX6_add_56
  (xv_iload_n dX6_add_57 rfl
  (xv_iast dX6_add_58
  (xv_aload_n dX6_add_59 rfl
  (xv_getR (k := 0) dX6_add_60 cl_11 tg_11 in_X6 (Nat.le_of_ble_eq_true rfl) rfl q1862
  (xv_iload dX6_add_63
  (xv_iconst dX6_add_65 rfl (inRd rfl)
  (xv_iadd dX6_add_66
  (xv_iload_n dX6_add_67 rfl
  (xv_iast dX6_add_68
  (xv_aload_n dX6_add_69 rfl
  (xv_getR (k := 0) dX6_add_70 cl_11 tg_11 in_X6 (Nat.le_of_ble_eq_true rfl) rfl q1862
  (xv_iload dX6_add_73
  (xv_iconst dX6_add_75 rfl (inRd rfl)
  (xv_iadd dX6_add_76
  (xv_iload_n dX6_add_77 rfl
  (xv_iast dX6_add_78
  (xv_aload_n dX6_add_79 rfl
  (xv_getR (k := 0) dX6_add_80 cl_11 tg_11 in_X6 (Nat.le_of_ble_eq_true rfl) rfl q1862
  (xv_iload dX6_add_83
  (xv_iconst dX6_add_85 rfl (inRd rfl)
  (xv_iadd dX6_add_86
  (xv_iconst dX6_add_87 rfl (inRd rfl)
  (xv_iast dX6_add_88
  (xv_aload_n dX6_add_89 rfl
  (xv_getR (k := 0) dX6_add_90 cl_11 tg_11 in_X6 (Nat.le_of_ble_eq_true rfl) rfl q1862
  (xv_iload dX6_add_93
  (xv_iconst dX6_add_95 rfl (inRd rfl)
  (xv_iadd dX6_add_96
  (xv_bipush dX6_add_97 rfl (inRd rfl)
  (xv_iast dX6_add_99
  (xv_aload_n dX6_add_100 rfl
  (xv_getR (k := 0) dX6_add_101 cl_11 tg_11 in_X6 (Nat.le_of_ble_eq_true rfl) rfl q1862
  (xv_iconst dX6_add_104 rfl (inRd rfl)
  (xv_dup2 dX6_add_105
  (xv_iald dX6_add_106
  (xv_iconst dX6_add_107 rfl (inRd rfl)
  (xv_iadd dX6_add_108
  (xv_iast dX6_add_109
  (xv_aload_n dX6_add_110 rfl
  (xv_callV dX6_add_111 cl_11 tg_11 ok_X6_isHeldAll rfl (lw_V q2007 q2009 qs60 q117 q2010))))))))))))))))))))))))))))))))))))))))))))))))))))))))))))))
  (xv_bipush dX6_add_22 rfl (inRd rfl)
  (xv_ireturn dX6_add_24 rfl))))))))
  (xv_iconst dX6_add_10 rfl (inRd rfl)
  (xv_ireturn dX6_add_11 rfl))))))))) l st S I h
def tr_X6_add_114 (d : Nat) (Rq : SmQ) (l : SmL) (st : List SmV) (S : SmS) (I : SmI) : Prop :=
  im_zeq l st S I (fun l st S I =>
  SW mi_X6_add 124 d Rq l st S I) (fun l st S I =>
  im_aload 0 l st S I fun l st S I =>
  im_callV 0 11 mi_X6_isSafeNow d (retK mi_X6_add 118 121 d Rq l) st S I)
theorem rv_X6_add_114 {d : Nat} {Rq : SmQ} {l : SmL} {st : List SmV} {S : SmS} {I : SmI} (h : tr_X6_add_114 d Rq l st S I) : SW mi_X6_add 114 d Rq l st S I :=
  (show SmW mi_X6_add 114 d Rq (tr_X6_add_114 d Rq) from
  (xv_zeq dX6_add_114 rfl
  (fun _ _ _ _ h => h)
  (xv_aload_n dX6_add_117 rfl
  (xv_callV dX6_add_118 cl_11 tg_11 ok_X6_isSafeNow rfl (lw_V q2045 q2047 qs68 q117 q2048))))) l st S I h
def tr_X6_add_121 (d : Nat) (Rq : SmQ) (l : SmL) (st : List SmV) (S : SmS) (I : SmI) : Prop :=
  im_zne l st S I (fun l st S I =>
  im_aload 0 l st S I fun l st S I =>
  im_getR 11 0 l st S I fun l st S I =>
  im_ic 1 l st S I fun l st S I =>
  im_ald 100 l st S I fun l st S I =>
  im_ireturn Rq l st S I) (fun l st S I =>
  SW mi_X6_add 124 d Rq l st S I)
theorem rv_X6_add_121 {d : Nat} {Rq : SmQ} {l : SmL} {st : List SmV} {S : SmS} {I : SmI} (h : tr_X6_add_121 d Rq l st S I) : SW mi_X6_add 121 d Rq l st S I :=
  (show SmW mi_X6_add 121 d Rq (tr_X6_add_121 d Rq) from
  (xv_zne dX6_add_121 rfl
  (xv_aload_n dX6_add_137 rfl
  (xv_getR (k := 0) dX6_add_138 cl_11 tg_11 in_X6 (Nat.le_of_ble_eq_true rfl) rfl q1862
  (xv_iconst dX6_add_141 rfl (inRd rfl)
  (xv_iald dX6_add_142
  (xv_ireturn dX6_add_143 rfl)))))
  (fun _ _ _ _ h => h))) l st S I h
def tr_X6_add_124 (d : Nat) (Rq : SmQ) (l : SmL) (st : List SmV) (S : SmS) (I : SmI) : Prop :=
  im_aload 0 l st S I fun l st S I =>
  im_getR 11 0 l st S I fun l st S I =>
  im_ic 1 l st S I fun l st S I =>
  im_dup2 l st S I fun l st S I =>
  im_ald 100 l st S I fun l st S I =>
  im_ic 1 l st S I fun l st S I =>
  im_isub l st S I fun l st S I =>
  im_iast l st S I fun l st S I =>
  im_ic (-2) l st S I fun l st S I =>
  im_ireturn Rq l st S I
theorem rv_X6_add_124 {d : Nat} {Rq : SmQ} {l : SmL} {st : List SmV} {S : SmS} {I : SmI} (h : tr_X6_add_124 d Rq l st S I) : SW mi_X6_add 124 d Rq l st S I :=
  (show SmW mi_X6_add 124 d Rq (tr_X6_add_124 d Rq) from
  (xv_aload_n dX6_add_124 rfl
  (xv_getR (k := 0) dX6_add_125 cl_11 tg_11 in_X6 (Nat.le_of_ble_eq_true rfl) rfl q1862
  (xv_iconst dX6_add_128 rfl (inRd rfl)
  (xv_dup2 dX6_add_129
  (xv_iald dX6_add_130
  (xv_iconst dX6_add_131 rfl (inRd rfl)
  (xv_isub dX6_add_132
  (xv_iast dX6_add_133
  (xv_bipush dX6_add_134 rfl (inRd rfl)
  (xv_ireturn dX6_add_136 rfl))))))))))) l st S I h
def tr_X6_drop_0 (d : Nat) (Rq : SmQ) (l : SmL) (st : List SmV) (S : SmS) (I : SmI) : Prop :=
  im_aload 0 l st S I fun l st S I =>
  im_iload 1 l st S I fun l st S I =>
  im_p_X6_isTrain d l st S I fun l st S I =>
  im_zne l st S I (fun l st S I =>
  im_aload 0 l st S I fun l st S I =>
  im_iload 1 l st S I fun l st S I =>
  im_ic 4 l st S I fun l st S I =>
  im_p_X6_ofTrain d l st S I fun l st S I =>
  im_ic 1 l st S I fun l st S I =>
  im_cne l st S I (fun l st S I =>
  im_ic 34 l st S I fun l st S I =>
  im_ic 6 l st S I fun l st S I =>
  im_iload 1 l st S I fun l st S I =>
  im_imul l st S I fun l st S I =>
  im_iadd l st S I fun l st S I =>
  im_istore 2 l st S I fun l st S I =>
  SW mi_X6_drop 31 d Rq l st S I) (fun l st S I =>
  im_ic (-2) l st S I fun l st S I =>
  im_ireturn Rq l st S I)) (fun l st S I =>
  im_ic (-1) l st S I fun l st S I =>
  im_ireturn Rq l st S I)
theorem rv_X6_drop_0 {d : Nat} {Rq : SmQ} {l : SmL} {st : List SmV} {S : SmS} {I : SmI} (h : tr_X6_drop_0 d Rq l st S I) : SW mi_X6_drop 0 d Rq l st S I :=
  (show SmW mi_X6_drop 0 d Rq (tr_X6_drop_0 d Rq) from
  (xv_aload_n dX6_drop_0 rfl
  (xv_iload_n dX6_drop_1 rfl
  (xv_p_X6_isTrain dX6_drop_2 (lw_V q2133 q2135 qs86 q117 q2136)
  (xv_zne dX6_drop_5 rfl
  (xv_aload_n dX6_drop_10 rfl
  (xv_iload_n dX6_drop_11 rfl
  (xv_iconst dX6_drop_12 rfl (inRd rfl)
  (xv_p_X6_ofTrain dX6_drop_13 (lw_V q2003 q2005 qs59 q117 q2006)
  (xv_iconst dX6_drop_16 rfl (inRd rfl)
  (xv_cne dX6_drop_17 rfl
  (xv_bipush dX6_drop_23 rfl (inRd rfl)
  (xv_bipush dX6_drop_25 rfl (inRd rfl)
  (xv_iload_n dX6_drop_27 rfl
  (xv_imul dX6_drop_28
  (xv_iadd dX6_drop_29
  (xv_istore_n dX6_drop_30 rfl (Nat.le_of_ble_eq_true rfl)
  (fun _ _ _ _ h => h)))))))
  (xv_bipush dX6_drop_20 rfl (inRd rfl)
  (xv_ireturn dX6_drop_22 rfl))))))))
  (xv_iconst dX6_drop_8 rfl (inRd rfl)
  (xv_ireturn dX6_drop_9 rfl))))))) l st S I h
def tr_X6_drop_31 (d : Nat) (Rq : SmQ) (l : SmL) (st : List SmV) (S : SmS) (I : SmI) : Prop :=
  im_iload 2 l st S I fun l st S I =>
  im_ic 34 l st S I fun l st S I =>
  im_ic 6 l st S I fun l st S I =>
  im_aload 0 l st S I fun l st S I =>
  im_getR 11 0 l st S I fun l st S I =>
  im_ic 1 l st S I fun l st S I =>
  im_ald 100 l st S I fun l st S I =>
  im_ic 1 l st S I fun l st S I =>
  im_isub l st S I fun l st S I =>
  im_imul l st S I fun l st S I =>
  im_iadd l st S I fun l st S I =>
  im_cge l st S I (fun l st S I =>
  im_aload 0 l st S I fun l st S I =>
  im_getR 11 0 l st S I fun l st S I =>
  im_ic 1 l st S I fun l st S I =>
  im_dup2 l st S I fun l st S I =>
  im_ald 100 l st S I fun l st S I =>
  im_ic 1 l st S I fun l st S I =>
  im_isub l st S I fun l st S I =>
  im_iast l st S I fun l st S I =>
  im_aload 0 l st S I fun l st S I =>
  im_iload 1 l st S I fun l st S I =>
  im_callV 1 11 mi_X6_leavesJournal d (retK mi_X6_drop 82 85 d Rq l) st S I) (fun l st S I =>
  im_aload 0 l st S I fun l st S I =>
  im_getR 11 0 l st S I fun l st S I =>
  im_iload 2 l st S I fun l st S I =>
  im_aload 0 l st S I fun l st S I =>
  im_getR 11 0 l st S I fun l st S I =>
  im_iload 2 l st S I fun l st S I =>
  im_ic 6 l st S I fun l st S I =>
  im_iadd l st S I fun l st S I =>
  im_ald 100 l st S I fun l st S I =>
  im_iast l st S I fun l st S I =>
  im_iinc 2 1 l st S I fun l st S I =>
  SW mi_X6_drop 31 d Rq l st S I)
theorem rv_X6_drop_31 {d : Nat} {Rq : SmQ} {l : SmL} {st : List SmV} {S : SmS} {I : SmI} (h : tr_X6_drop_31 d Rq l st S I) : SW mi_X6_drop 31 d Rq l st S I :=
  (show SmW mi_X6_drop 31 d Rq (tr_X6_drop_31 d Rq) from
  (xv_iload_n dX6_drop_31 rfl
  (xv_bipush dX6_drop_32 rfl (inRd rfl)
  (xv_bipush dX6_drop_34 rfl (inRd rfl)
  (xv_aload_n dX6_drop_36 rfl
  (xv_getR (k := 0) dX6_drop_37 cl_11 tg_11 in_X6 (Nat.le_of_ble_eq_true rfl) rfl q1862
  (xv_iconst dX6_drop_40 rfl (inRd rfl)
  (xv_iald dX6_drop_41
  (xv_iconst dX6_drop_42 rfl (inRd rfl)
  (xv_isub dX6_drop_43
  (xv_imul dX6_drop_44
  (xv_iadd dX6_drop_45
  (xv_cge dX6_drop_46 rfl
  (xv_aload_n dX6_drop_70 rfl
  (xv_getR (k := 0) dX6_drop_71 cl_11 tg_11 in_X6 (Nat.le_of_ble_eq_true rfl) rfl q1862
  (xv_iconst dX6_drop_74 rfl (inRd rfl)
  (xv_dup2 dX6_drop_75
  (xv_iald dX6_drop_76
  (xv_iconst dX6_drop_77 rfl (inRd rfl)
  (xv_isub dX6_drop_78
  (xv_iast dX6_drop_79
  (xv_aload_n dX6_drop_80 rfl
  (xv_iload_n dX6_drop_81 rfl
  (xv_callV dX6_drop_82 cl_11 tg_11 ok_X6_leavesJournal rfl (lw_V q2244 q2246 qs101 q117 q2247))))))))))))
  (xv_aload_n dX6_drop_49 rfl
  (xv_getR (k := 0) dX6_drop_50 cl_11 tg_11 in_X6 (Nat.le_of_ble_eq_true rfl) rfl q1862
  (xv_iload_n dX6_drop_53 rfl
  (xv_aload_n dX6_drop_54 rfl
  (xv_getR (k := 0) dX6_drop_55 cl_11 tg_11 in_X6 (Nat.le_of_ble_eq_true rfl) rfl q1862
  (xv_iload_n dX6_drop_58 rfl
  (xv_bipush dX6_drop_59 rfl (inRd rfl)
  (xv_iadd dX6_drop_61
  (xv_iald dX6_drop_62
  (xv_iast dX6_drop_63
  (xv_iinc dX6_drop_64 (Nat.le_of_ble_eq_true rfl)
  (xv_goto dX6_drop_67 rfl (fun _ _ _ _ h => h)))))))))))))))))))))))))) l st S I h
def tr_X6_drop_85 (d : Nat) (Rq : SmQ) (l : SmL) (st : List SmV) (S : SmS) (I : SmI) : Prop :=
  im_aload 0 l st S I fun l st S I =>
  im_getR 11 0 l st S I fun l st S I =>
  im_ic 1 l st S I fun l st S I =>
  im_ald 100 l st S I fun l st S I =>
  im_ireturn Rq l st S I
theorem rv_X6_drop_85 {d : Nat} {Rq : SmQ} {l : SmL} {st : List SmV} {S : SmS} {I : SmI} (h : tr_X6_drop_85 d Rq l st S I) : SW mi_X6_drop 85 d Rq l st S I :=
  (show SmW mi_X6_drop 85 d Rq (tr_X6_drop_85 d Rq) from
  (xv_aload_n dX6_drop_85 rfl
  (xv_getR (k := 0) dX6_drop_86 cl_11 tg_11 in_X6 (Nat.le_of_ble_eq_true rfl) rfl q1862
  (xv_iconst dX6_drop_89 rfl (inRd rfl)
  (xv_iald dX6_drop_90
  (xv_ireturn dX6_drop_91 rfl)))))) l st S I h
def tr_X6_draw_0 (d : Nat) (Rq : SmQ) (l : SmL) (st : List SmV) (S : SmS) (I : SmI) : Prop :=
  im_iload 2 l st S I fun l st S I =>
  im_i2l l st S I fun l st S I =>
  im_lc 1 l st S I fun l st S I =>
  im_lc 8 l st S I fun l st S I =>
  im_p_X6_in d l st S I fun l st S I =>
  im_zne l st S I (fun l st S I =>
  im_aload 0 l st S I fun l st S I =>
  im_getR 11 0 l st S I fun l st S I =>
  im_ic 0 l st S I fun l st S I =>
  im_ald 100 l st S I fun l st S I =>
  im_zne l st S I (fun l st S I =>
  im_iload 1 l st S I fun l st S I =>
  im_istore 3 l st S I fun l st S I =>
  im_ic 0 l st S I fun l st S I =>
  im_istore 4 l st S I fun l st S I =>
  im_ic 0 l st S I fun l st S I =>
  im_istore 5 l st S I fun l st S I =>
  SW mi_X6_draw 34 d Rq l st S I) (fun l st S I =>
  im_ic (-2) l st S I fun l st S I =>
  im_ireturn Rq l st S I)) (fun l st S I =>
  im_ic (-1) l st S I fun l st S I =>
  im_ireturn Rq l st S I)
theorem rv_X6_draw_0 {d : Nat} {Rq : SmQ} {l : SmL} {st : List SmV} {S : SmS} {I : SmI} (h : tr_X6_draw_0 d Rq l st S I) : SW mi_X6_draw 0 d Rq l st S I :=
  (show SmW mi_X6_draw 0 d Rq (tr_X6_draw_0 d Rq) from
  (xv_iload_n dX6_draw_0 rfl
  (xv_i2l dX6_draw_1
  (xv_lconst dX6_draw_2 rfl (inR64d rfl)
  (xv_ldc2 dX6_draw_3 q2252 rfl (inR64d rfl)
  (xv_p_X6_in dX6_draw_6 (lw_S q1940 q1941 q117 q1942)
  (xv_zne dX6_draw_9 rfl
  (xv_aload_n dX6_draw_14 rfl
  (xv_getR (k := 0) dX6_draw_15 cl_11 tg_11 in_X6 (Nat.le_of_ble_eq_true rfl) rfl q1862
  (xv_iconst dX6_draw_18 rfl (inRd rfl)
  (xv_iald dX6_draw_19
  (xv_zne dX6_draw_20 rfl
  (xv_iload_n dX6_draw_26 rfl
  (xv_istore_n dX6_draw_27 rfl (Nat.le_of_ble_eq_true rfl)
  (xv_iconst dX6_draw_28 rfl (inRd rfl)
  (xv_istore dX6_draw_29 (Nat.le_of_ble_eq_true rfl)
  (xv_iconst dX6_draw_31 rfl (inRd rfl)
  (xv_istore dX6_draw_32 (Nat.le_of_ble_eq_true rfl)
  (fun _ _ _ _ h => h)))))))
  (xv_bipush dX6_draw_23 rfl (inRd rfl)
  (xv_ireturn dX6_draw_25 rfl)))))))
  (xv_iconst dX6_draw_12 rfl (inRd rfl)
  (xv_ireturn dX6_draw_13 rfl))))))))) l st S I h
def tr_X6_draw_34 (d : Nat) (Rq : SmQ) (l : SmL) (st : List SmV) (S : SmS) (I : SmI) : Prop :=
  im_iload 5 l st S I fun l st S I =>
  im_iload 2 l st S I fun l st S I =>
  im_cge l st S I (fun l st S I =>
  im_iload 4 l st S I fun l st S I =>
  im_ireturn Rq l st S I) (fun l st S I =>
  im_iload 3 l st S I fun l st S I =>
  im_ic 1103515245 l st S I fun l st S I =>
  im_imul l st S I fun l st S I =>
  im_ic 12345 l st S I fun l st S I =>
  im_iadd l st S I fun l st S I =>
  im_istore 3 l st S I fun l st S I =>
  im_iload 3 l st S I fun l st S I =>
  im_ic 16 l st S I fun l st S I =>
  im_ishr l st S I fun l st S I =>
  im_ic 32767 l st S I fun l st S I =>
  im_iand l st S I fun l st S I =>
  im_istore 6 l st S I fun l st S I =>
  im_iload 4 l st S I fun l st S I =>
  im_aload 0 l st S I fun l st S I =>
  im_iload 6 l st S I fun l st S I =>
  im_aload 0 l st S I fun l st S I =>
  im_getR 11 0 l st S I fun l st S I =>
  im_ic 0 l st S I fun l st S I =>
  im_ald 100 l st S I fun l st S I =>
  im_irem l st S I fun l st S I =>
  im_iload 6 l st S I fun l st S I =>
  im_ic 8 l st S I fun l st S I =>
  im_idiv l st S I fun l st S I =>
  im_aload 0 l st S I fun l st S I =>
  im_getR 11 0 l st S I fun l st S I =>
  im_ic 0 l st S I fun l st S I =>
  im_ald 100 l st S I fun l st S I =>
  im_irem l st S I fun l st S I =>
  im_iload 6 l st S I fun l st S I =>
  im_ic 64 l st S I fun l st S I =>
  im_idiv l st S I fun l st S I =>
  im_ic 6 l st S I fun l st S I =>
  im_irem l st S I fun l st S I =>
  im_ic 1 l st S I fun l st S I =>
  im_iadd l st S I fun l st S I =>
  im_callV 3 11 mi_X6_add d (retK mi_X6_draw 94 97 d Rq l) st S I)
theorem rv_X6_draw_34 {d : Nat} {Rq : SmQ} {l : SmL} {st : List SmV} {S : SmS} {I : SmI} (h : tr_X6_draw_34 d Rq l st S I) : SW mi_X6_draw 34 d Rq l st S I :=
  (show SmW mi_X6_draw 34 d Rq (tr_X6_draw_34 d Rq) from
  (xv_iload dX6_draw_34
  (xv_iload_n dX6_draw_36 rfl
  (xv_cge dX6_draw_37 rfl
  (xv_iload dX6_draw_117
  (xv_ireturn dX6_draw_119 rfl))
  (xv_iload_n dX6_draw_40 rfl
  (xv_ldcw dX6_draw_41 q2253 rfl (inRd rfl)
  (xv_imul dX6_draw_44
  (xv_sipush dX6_draw_45 rfl (inRd rfl)
  (xv_iadd dX6_draw_48
  (xv_istore_n dX6_draw_49 rfl (Nat.le_of_ble_eq_true rfl)
  (xv_iload_n dX6_draw_50 rfl
  (xv_bipush dX6_draw_51 rfl (inRd rfl)
  (xv_ishr dX6_draw_53
  (xv_sipush dX6_draw_54 rfl (inRd rfl)
  (xv_iand dX6_draw_57
  (xv_istore dX6_draw_58 (Nat.le_of_ble_eq_true rfl)
  (xv_iload dX6_draw_60
  (xv_aload_n dX6_draw_62 rfl
  (xv_iload dX6_draw_63
  (xv_aload_n dX6_draw_65 rfl
  (xv_getR (k := 0) dX6_draw_66 cl_11 tg_11 in_X6 (Nat.le_of_ble_eq_true rfl) rfl q1862
  (xv_iconst dX6_draw_69 rfl (inRd rfl)
  (xv_iald dX6_draw_70
  (xv_irem dX6_draw_71
  (xv_iload dX6_draw_72
  (xv_bipush dX6_draw_74 rfl (inRd rfl)
  (xv_idiv dX6_draw_76
  (xv_aload_n dX6_draw_77 rfl
  (xv_getR (k := 0) dX6_draw_78 cl_11 tg_11 in_X6 (Nat.le_of_ble_eq_true rfl) rfl q1862
  (xv_iconst dX6_draw_81 rfl (inRd rfl)
  (xv_iald dX6_draw_82
  (xv_irem dX6_draw_83
  (xv_iload dX6_draw_84
  (xv_bipush dX6_draw_86 rfl (inRd rfl)
  (xv_idiv dX6_draw_88
  (xv_bipush dX6_draw_89 rfl (inRd rfl)
  (xv_irem dX6_draw_91
  (xv_iconst dX6_draw_92 rfl (inRd rfl)
  (xv_iadd dX6_draw_93
  (xv_callV dX6_draw_94 cl_11 tg_11 ok_X6_add rfl (lw_V q2254 q2232 q2233 q117 q2234))))))))))))))))))))))))))))))))))))))))) l st S I h
def tr_X6_draw_97 (d : Nat) (Rq : SmQ) (l : SmL) (st : List SmV) (S : SmS) (I : SmI) : Prop :=
  im_zle l st S I (fun l st S I =>
  im_ic 0 l st S I fun l st S I =>
  im_p_X6_flag d l st S I fun l st S I =>
  im_iadd l st S I fun l st S I =>
  im_istore 4 l st S I fun l st S I =>
  im_iinc 5 1 l st S I fun l st S I =>
  SW mi_X6_draw 34 d Rq l st S I) (fun l st S I =>
  im_ic 1 l st S I fun l st S I =>
  im_p_X6_flag d l st S I fun l st S I =>
  im_iadd l st S I fun l st S I =>
  im_istore 4 l st S I fun l st S I =>
  im_iinc 5 1 l st S I fun l st S I =>
  SW mi_X6_draw 34 d Rq l st S I)
theorem rv_X6_draw_97 {d : Nat} {Rq : SmQ} {l : SmL} {st : List SmV} {S : SmS} {I : SmI} (h : tr_X6_draw_97 d Rq l st S I) : SW mi_X6_draw 97 d Rq l st S I :=
  (show SmW mi_X6_draw 97 d Rq (tr_X6_draw_97 d Rq) from
  (xv_zle dX6_draw_97 rfl
  (xv_iconst dX6_draw_104 rfl (inRd rfl)
  (xv_p_X6_flag dX6_draw_105 (lw_S q2034 q2035 q117 q2036)
  (xv_iadd dX6_draw_108
  (xv_istore dX6_draw_109 (Nat.le_of_ble_eq_true rfl)
  (xv_iinc dX6_draw_111 (Nat.le_of_ble_eq_true rfl)
  (xv_goto dX6_draw_114 rfl (fun _ _ _ _ h => h)))))))
  (xv_iconst dX6_draw_100 rfl (inRd rfl)
  (xv_goto dX6_draw_101 rfl (xv_p_X6_flag dX6_draw_105 (lw_S q2034 q2035 q117 q2036)
  (xv_iadd dX6_draw_108
  (xv_istore dX6_draw_109 (Nat.le_of_ble_eq_true rfl)
  (xv_iinc dX6_draw_111 (Nat.le_of_ble_eq_true rfl)
  (xv_goto dX6_draw_114 rfl (fun _ _ _ _ h => h)))))))))) l st S I h
def tr_X6_read_0 (d : Nat) (Rq : SmQ) (l : SmL) (st : List SmV) (S : SmS) (I : SmI) : Prop :=
  im_iload 1 l st S I fun l st S I =>
  im_iload 2 l st S I fun l st S I =>
  im_p_X6_isSheet d l st S I fun l st S I =>
  im_zeq l st S I (fun l st S I =>
  im_ic (-1) l st S I fun l st S I =>
  im_ireturn Rq l st S I) (fun l st S I =>
  im_iload 4 l st S I fun l st S I =>
  im_i2l l st S I fun l st S I =>
  im_lc 0 l st S I fun l st S I =>
  im_lc 10 l st S I fun l st S I =>
  im_p_X6_in d l st S I fun l st S I =>
  im_zne l st S I (fun l st S I =>
  im_aload 0 l st S I fun l st S I =>
  im_callV 0 11 mi_X6_keepBefore d (retK mi_X6_read 24 27 d Rq l) st S I) (fun l st S I =>
  im_ic (-1) l st S I fun l st S I =>
  im_ireturn Rq l st S I))
theorem rv_X6_read_0 {d : Nat} {Rq : SmQ} {l : SmL} {st : List SmV} {S : SmS} {I : SmI} (h : tr_X6_read_0 d Rq l st S I) : SW mi_X6_read 0 d Rq l st S I :=
  (show SmW mi_X6_read 0 d Rq (tr_X6_read_0 d Rq) from
  (xv_iload_n dX6_read_0 rfl
  (xv_iload_n dX6_read_1 rfl
  (xv_p_X6_isSheet dX6_read_2 (lw_S q2267 q2268 q117 q2269)
  (xv_zeq dX6_read_5 rfl
  (xv_iconst dX6_read_21 rfl (inRd rfl)
  (xv_ireturn dX6_read_22 rfl))
  (xv_iload dX6_read_8
  (xv_i2l dX6_read_10
  (xv_lconst dX6_read_11 rfl (inR64d rfl)
  (xv_ldc2 dX6_read_12 q2279 rfl (inR64d rfl)
  (xv_p_X6_in dX6_read_15 (lw_S q1940 q1941 q117 q1942)
  (xv_zne dX6_read_18 rfl
  (xv_aload_n dX6_read_23 rfl
  (xv_callV dX6_read_24 cl_11 tg_11 ok_X6_keepBefore rfl (lw_V q1995 q1997 qs57 q117 q1998)))
  (xv_iconst dX6_read_21 rfl (inRd rfl)
  (xv_ireturn dX6_read_22 rfl))))))))))))) l st S I h
def tr_X6_read_27 (d : Nat) (Rq : SmQ) (l : SmL) (st : List SmV) (S : SmS) (I : SmI) : Prop :=
  im_ic 0 l st S I fun l st S I =>
  im_istore 5 l st S I fun l st S I =>
  im_ic 0 l st S I fun l st S I =>
  im_istore 6 l st S I fun l st S I =>
  im_ic 0 l st S I fun l st S I =>
  im_istore 7 l st S I fun l st S I =>
  SW mi_X6_read 36 d Rq l st S I
theorem rv_X6_read_27 {d : Nat} {Rq : SmQ} {l : SmL} {st : List SmV} {S : SmS} {I : SmI} (h : tr_X6_read_27 d Rq l st S I) : SW mi_X6_read 27 d Rq l st S I :=
  (show SmW mi_X6_read 27 d Rq (tr_X6_read_27 d Rq) from
  (xv_iconst dX6_read_27 rfl (inRd rfl)
  (xv_istore dX6_read_28 (Nat.le_of_ble_eq_true rfl)
  (xv_iconst dX6_read_30 rfl (inRd rfl)
  (xv_istore dX6_read_31 (Nat.le_of_ble_eq_true rfl)
  (xv_iconst dX6_read_33 rfl (inRd rfl)
  (xv_istore dX6_read_34 (Nat.le_of_ble_eq_true rfl)
  (fun _ _ _ _ h => h)))))))) l st S I h
def tr_X6_read_36 (d : Nat) (Rq : SmQ) (l : SmL) (st : List SmV) (S : SmS) (I : SmI) : Prop :=
  im_iload 7 l st S I fun l st S I =>
  im_iload 4 l st S I fun l st S I =>
  im_cge l st S I (fun l st S I =>
  im_aload 0 l st S I fun l st S I =>
  im_iload 5 l st S I fun l st S I =>
  im_putI 11 23 l st S I fun l st S I =>
  im_iload 6 l st S I fun l st S I =>
  im_ireturn Rq l st S I) (fun l st S I =>
  im_iload 5 l st S I fun l st S I =>
  im_zne l st S I (fun l st S I =>
  im_aload 0 l st S I fun l st S I =>
  im_iload 5 l st S I fun l st S I =>
  im_putI 11 23 l st S I fun l st S I =>
  im_iload 6 l st S I fun l st S I =>
  im_ireturn Rq l st S I) (fun l st S I =>
  im_ic 0 l st S I fun l st S I =>
  im_istore 8 l st S I fun l st S I =>
  SW mi_X6_read 51 d Rq l st S I))
theorem rv_X6_read_36 {d : Nat} {Rq : SmQ} {l : SmL} {st : List SmV} {S : SmS} {I : SmI} (h : tr_X6_read_36 d Rq l st S I) : SW mi_X6_read 36 d Rq l st S I :=
  (show SmW mi_X6_read 36 d Rq (tr_X6_read_36 d Rq) from
  (xv_iload dX6_read_36
  (xv_iload dX6_read_38
  (xv_cge dX6_read_40 rfl
  (xv_aload_n dX6_read_207 rfl
  (xv_iload dX6_read_208
  (xv_putI (k := 23) dX6_read_210 cl_11 tg_11 in_X6 tyX6_ok nmX6 (Nat.le_of_ble_eq_true rfl) rfl ⟨Or.inl q1885, Or.inl rfl⟩
  (xv_iload dX6_read_213
  (xv_ireturn dX6_read_215 rfl)))))
  (xv_iload dX6_read_43
  (xv_zne dX6_read_45 rfl
  (xv_aload_n dX6_read_207 rfl
  (xv_iload dX6_read_208
  (xv_putI (k := 23) dX6_read_210 cl_11 tg_11 in_X6 tyX6_ok nmX6 (Nat.le_of_ble_eq_true rfl) rfl ⟨Or.inl q1885, Or.inl rfl⟩
  (xv_iload dX6_read_213
  (xv_ireturn dX6_read_215 rfl)))))
  (xv_iconst dX6_read_48 rfl (inRd rfl)
  (xv_istore dX6_read_49 (Nat.le_of_ble_eq_true rfl)
  (fun _ _ _ _ h => h))))))))) l st S I h
def tr_X6_read_51 (d : Nat) (Rq : SmQ) (l : SmL) (st : List SmV) (S : SmS) (I : SmI) : Prop :=
  im_iload 8 l st S I fun l st S I =>
  im_ic 3 l st S I fun l st S I =>
  im_cge l st S I (fun l st S I =>
  SW mi_X6_read 138 d Rq l st S I) (fun l st S I =>
  im_iload 5 l st S I fun l st S I =>
  im_zne l st S I (fun l st S I =>
  SW mi_X6_read 138 d Rq l st S I) (fun l st S I =>
  im_iload 3 l st S I fun l st S I =>
  im_i2l l st S I fun l st S I =>
  im_ic 3 l st S I fun l st S I =>
  im_iload 7 l st S I fun l st S I =>
  im_imul l st S I fun l st S I =>
  im_i2l l st S I fun l st S I =>
  im_ladd l st S I fun l st S I =>
  im_iload 8 l st S I fun l st S I =>
  im_i2l l st S I fun l st S I =>
  im_ladd l st S I fun l st S I =>
  im_lstore 9 l st S I fun l st S I =>
  im_aload 0 l st S I fun l st S I =>
  im_getR 11 20 l st S I fun l st S I =>
  im_iload 1 l st S I fun l st S I =>
  im_ald 100 l st S I fun l st S I =>
  im_ic (-4) l st S I fun l st S I =>
  im_cne l st S I (fun l st S I =>
  im_aload 0 l st S I fun l st S I =>
  im_getR 11 20 l st S I fun l st S I =>
  im_iload 1 l st S I fun l st S I =>
  im_ald 100 l st S I fun l st S I =>
  im_iload 2 l st S I fun l st S I =>
  im_ceq l st S I (fun l st S I =>
  im_lload 9 l st S I fun l st S I =>
  im_lc 0 l st S I fun l st S I =>
  im_lcmp l st S I fun l st S I =>
  im_zlt l st S I (fun l st S I =>
  im_ic 2 l st S I fun l st S I =>
  im_istore 5 l st S I fun l st S I =>
  im_iinc 8 1 l st S I fun l st S I =>
  SW mi_X6_read 51 d Rq l st S I) (fun l st S I =>
  im_lload 9 l st S I fun l st S I =>
  im_aload 0 l st S I fun l st S I =>
  im_getR 11 21 l st S I fun l st S I =>
  im_iload 1 l st S I fun l st S I =>
  im_ald 100 l st S I fun l st S I =>
  im_i2l l st S I fun l st S I =>
  im_lcmp l st S I fun l st S I =>
  im_zlt l st S I (fun l st S I =>
  im_ic 0 l st S I fun l st S I =>
  im_istore 5 l st S I fun l st S I =>
  im_iinc 8 1 l st S I fun l st S I =>
  SW mi_X6_read 51 d Rq l st S I) (fun l st S I =>
  im_ic 2 l st S I fun l st S I =>
  im_istore 5 l st S I fun l st S I =>
  im_iinc 8 1 l st S I fun l st S I =>
  SW mi_X6_read 51 d Rq l st S I))) (fun l st S I =>
  im_ic 3 l st S I fun l st S I =>
  im_istore 5 l st S I fun l st S I =>
  im_iinc 8 1 l st S I fun l st S I =>
  SW mi_X6_read 51 d Rq l st S I)) (fun l st S I =>
  im_ic 1 l st S I fun l st S I =>
  im_istore 5 l st S I fun l st S I =>
  im_iinc 8 1 l st S I fun l st S I =>
  SW mi_X6_read 51 d Rq l st S I)))
theorem rv_X6_read_51 {d : Nat} {Rq : SmQ} {l : SmL} {st : List SmV} {S : SmS} {I : SmI} (h : tr_X6_read_51 d Rq l st S I) : SW mi_X6_read 51 d Rq l st S I :=
  (show SmW mi_X6_read 51 d Rq (tr_X6_read_51 d Rq) from
  (xv_iload dX6_read_51
  (xv_iconst dX6_read_53 rfl (inRd rfl)
  (xv_cge dX6_read_54 rfl
  (fun _ _ _ _ h => h)
  (xv_iload dX6_read_57
  (xv_zne dX6_read_59 rfl
  (fun _ _ _ _ h => h)
  (xv_iload_n dX6_read_62 rfl
  (xv_i2l dX6_read_63
  (xv_iconst dX6_read_64 rfl (inRd rfl)
  (xv_iload dX6_read_65
  (xv_imul dX6_read_67
  (xv_i2l dX6_read_68
  (xv_ladd dX6_read_69
  (xv_iload dX6_read_70
  (xv_i2l dX6_read_72
  (xv_ladd dX6_read_73
  (xv_lstore dX6_read_74 (Nat.le_of_ble_eq_true rfl)
  (xv_aload_n dX6_read_76 rfl
  (xv_getR (k := 20) dX6_read_77 cl_11 tg_11 in_X6 (Nat.le_of_ble_eq_true rfl) rfl q1882
  (xv_iload_n dX6_read_80 rfl
  (xv_iald dX6_read_81
  (xv_bipush dX6_read_82 rfl (inRd rfl)
  (xv_cne dX6_read_84 rfl
  (xv_aload_n dX6_read_91 rfl
  (xv_getR (k := 20) dX6_read_92 cl_11 tg_11 in_X6 (Nat.le_of_ble_eq_true rfl) rfl q1882
  (xv_iload_n dX6_read_95 rfl
  (xv_iald dX6_read_96
  (xv_iload_n dX6_read_97 rfl
  (xv_ceq dX6_read_98 rfl
  (xv_lload dX6_read_105
  (xv_lconst dX6_read_107 rfl (inR64d rfl)
  (xv_lcmp dX6_read_108
  (xv_zlt dX6_read_109 rfl
  (xv_iconst dX6_read_125 rfl (inRd rfl)
  (xv_goto dX6_read_126 rfl (xv_istore dX6_read_130 (Nat.le_of_ble_eq_true rfl)
  (xv_iinc dX6_read_132 (Nat.le_of_ble_eq_true rfl)
  (xv_goto dX6_read_135 rfl (fun _ _ _ _ h => h))))))
  (xv_lload dX6_read_112
  (xv_aload_n dX6_read_114 rfl
  (xv_getR (k := 21) dX6_read_115 cl_11 tg_11 in_X6 (Nat.le_of_ble_eq_true rfl) rfl q1883
  (xv_iload_n dX6_read_118 rfl
  (xv_iald dX6_read_119
  (xv_i2l dX6_read_120
  (xv_lcmp dX6_read_121
  (xv_zlt dX6_read_122 rfl
  (xv_iconst dX6_read_129 rfl (inRd rfl)
  (xv_istore dX6_read_130 (Nat.le_of_ble_eq_true rfl)
  (xv_iinc dX6_read_132 (Nat.le_of_ble_eq_true rfl)
  (xv_goto dX6_read_135 rfl (fun _ _ _ _ h => h)))))
  (xv_iconst dX6_read_125 rfl (inRd rfl)
  (xv_goto dX6_read_126 rfl (xv_istore dX6_read_130 (Nat.le_of_ble_eq_true rfl)
  (xv_iinc dX6_read_132 (Nat.le_of_ble_eq_true rfl)
  (xv_goto dX6_read_135 rfl (fun _ _ _ _ h => h))))))))))))))))))
  (xv_iconst dX6_read_101 rfl (inRd rfl)
  (xv_goto dX6_read_102 rfl (xv_istore dX6_read_130 (Nat.le_of_ble_eq_true rfl)
  (xv_iinc dX6_read_132 (Nat.le_of_ble_eq_true rfl)
  (xv_goto dX6_read_135 rfl (fun _ _ _ _ h => h))))))))))))
  (xv_iconst dX6_read_87 rfl (inRd rfl)
  (xv_goto dX6_read_88 rfl (xv_istore dX6_read_130 (Nat.le_of_ble_eq_true rfl)
  (xv_iinc dX6_read_132 (Nat.le_of_ble_eq_true rfl)
  (xv_goto dX6_read_135 rfl (fun _ _ _ _ h => h))))))))))))))))))))))))))))) l st S I h
def tr_X6_read_138 (d : Nat) (Rq : SmQ) (l : SmL) (st : List SmV) (S : SmS) (I : SmI) : Prop :=
  im_iload 5 l st S I fun l st S I =>
  im_zne l st S I (fun l st S I =>
  im_iinc 7 1 l st S I fun l st S I =>
  SW mi_X6_read 36 d Rq l st S I) (fun l st S I =>
  im_ic 40 l st S I fun l st S I =>
  im_iload 1 l st S I fun l st S I =>
  im_imul l st S I fun l st S I =>
  im_iload 3 l st S I fun l st S I =>
  im_iadd l st S I fun l st S I =>
  im_ic 3 l st S I fun l st S I =>
  im_iload 7 l st S I fun l st S I =>
  im_imul l st S I fun l st S I =>
  im_iadd l st S I fun l st S I =>
  im_istore 8 l st S I fun l st S I =>
  im_aload 0 l st S I fun l st S I =>
  im_aload 0 l st S I fun l st S I =>
  im_getR 11 22 l st S I fun l st S I =>
  im_iload 8 l st S I fun l st S I =>
  im_ald 100 l st S I fun l st S I =>
  im_aload 0 l st S I fun l st S I =>
  im_getR 11 22 l st S I fun l st S I =>
  im_iload 8 l st S I fun l st S I =>
  im_ic 1 l st S I fun l st S I =>
  im_iadd l st S I fun l st S I =>
  im_ald 100 l st S I fun l st S I =>
  im_aload 0 l st S I fun l st S I =>
  im_getR 11 22 l st S I fun l st S I =>
  im_iload 8 l st S I fun l st S I =>
  im_ic 2 l st S I fun l st S I =>
  im_iadd l st S I fun l st S I =>
  im_ald 100 l st S I fun l st S I =>
  im_callV 3 11 mi_X6_add d (retK mi_X6_read 182 185 d Rq l) st S I)
theorem rv_X6_read_138 {d : Nat} {Rq : SmQ} {l : SmL} {st : List SmV} {S : SmS} {I : SmI} (h : tr_X6_read_138 d Rq l st S I) : SW mi_X6_read 138 d Rq l st S I :=
  (show SmW mi_X6_read 138 d Rq (tr_X6_read_138 d Rq) from
  (xv_iload dX6_read_138
  (xv_zne dX6_read_140 rfl
  (xv_iinc dX6_read_201 (Nat.le_of_ble_eq_true rfl)
  (xv_goto dX6_read_204 rfl (fun _ _ _ _ h => h)))
  (xv_bipush dX6_read_143 rfl (inRd rfl)
  (xv_iload_n dX6_read_145 rfl
  (xv_imul dX6_read_146
  (xv_iload_n dX6_read_147 rfl
  (xv_iadd dX6_read_148
  (xv_iconst dX6_read_149 rfl (inRd rfl)
  (xv_iload dX6_read_150
  (xv_imul dX6_read_152
  (xv_iadd dX6_read_153
  (xv_istore dX6_read_154 (Nat.le_of_ble_eq_true rfl)
  (xv_aload_n dX6_read_156 rfl
  (xv_aload_n dX6_read_157 rfl
  (xv_getR (k := 22) dX6_read_158 cl_11 tg_11 in_X6 (Nat.le_of_ble_eq_true rfl) rfl q1884
  (xv_iload dX6_read_161
  (xv_iald dX6_read_163
  (xv_aload_n dX6_read_164 rfl
  (xv_getR (k := 22) dX6_read_165 cl_11 tg_11 in_X6 (Nat.le_of_ble_eq_true rfl) rfl q1884
  (xv_iload dX6_read_168
  (xv_iconst dX6_read_170 rfl (inRd rfl)
  (xv_iadd dX6_read_171
  (xv_iald dX6_read_172
  (xv_aload_n dX6_read_173 rfl
  (xv_getR (k := 22) dX6_read_174 cl_11 tg_11 in_X6 (Nat.le_of_ble_eq_true rfl) rfl q1884
  (xv_iload dX6_read_177
  (xv_iconst dX6_read_179 rfl (inRd rfl)
  (xv_iadd dX6_read_180
  (xv_iald dX6_read_181
  (xv_callV dX6_read_182 cl_11 tg_11 ok_X6_add rfl (lw_V q2254 q2232 q2233 q117 q2234)))))))))))))))))))))))))))))))) l st S I h
def tr_X6_read_185 (d : Nat) (Rq : SmQ) (l : SmL) (st : List SmV) (S : SmS) (I : SmI) : Prop :=
  im_zge l st S I (fun l st S I =>
  im_iinc 6 1 l st S I fun l st S I =>
  im_iinc 7 1 l st S I fun l st S I =>
  SW mi_X6_read 36 d Rq l st S I) (fun l st S I =>
  im_aload 0 l st S I fun l st S I =>
  im_callV 0 11 mi_X6_backBefore d (retK mi_X6_read 189 192 d Rq l) st S I)
theorem rv_X6_read_185 {d : Nat} {Rq : SmQ} {l : SmL} {st : List SmV} {S : SmS} {I : SmI} (h : tr_X6_read_185 d Rq l st S I) : SW mi_X6_read 185 d Rq l st S I :=
  (show SmW mi_X6_read 185 d Rq (tr_X6_read_185 d Rq) from
  (xv_zge dX6_read_185 rfl
  (xv_iinc dX6_read_198 (Nat.le_of_ble_eq_true rfl)
  (xv_iinc dX6_read_201 (Nat.le_of_ble_eq_true rfl)
  (xv_goto dX6_read_204 rfl (fun _ _ _ _ h => h))))
  (xv_aload_n dX6_read_188 rfl
  (xv_callV dX6_read_189 cl_11 tg_11 ok_X6_backBefore rfl (lw_V q2065 q2067 qs73 q117 q2068))))) l st S I h
def tr_X6_read_192 (d : Nat) (Rq : SmQ) (l : SmL) (st : List SmV) (S : SmS) (I : SmI) : Prop :=
  im_ic (-20) l st S I fun l st S I =>
  im_iload 7 l st S I fun l st S I =>
  im_isub l st S I fun l st S I =>
  im_ireturn Rq l st S I
theorem rv_X6_read_192 {d : Nat} {Rq : SmQ} {l : SmL} {st : List SmV} {S : SmS} {I : SmI} (h : tr_X6_read_192 d Rq l st S I) : SW mi_X6_read 192 d Rq l st S I :=
  (show SmW mi_X6_read 192 d Rq (tr_X6_read_192 d Rq) from
  (xv_bipush dX6_read_192 rfl (inRd rfl)
  (xv_iload dX6_read_194
  (xv_isub dX6_read_196
  (xv_ireturn dX6_read_197 rfl))))) l st S I h
def tr_X6_count_0 (d : Nat) (Rq : SmQ) (l : SmL) (st : List SmV) (S : SmS) (I : SmI) : Prop :=
  im_iload 1 l st S I fun l st S I =>
  im_tsw 0 5 [(fun l st S I =>
  im_aload 0 l st S I fun l st S I =>
  im_getR 11 4 l st S I fun l st S I =>
  im_ic 0 l st S I fun l st S I =>
  im_ald 102 l st S I fun l st S I =>
  im_p_X6_flag d l st S I fun l st S I =>
  im_aload 0 l st S I fun l st S I =>
  im_getR 11 4 l st S I fun l st S I =>
  im_ic 1 l st S I fun l st S I =>
  im_ald 102 l st S I fun l st S I =>
  im_p_X6_flag d l st S I fun l st S I =>
  im_iadd l st S I fun l st S I =>
  im_ireturn Rq l st S I), (fun l st S I =>
  im_aload 0 l st S I fun l st S I =>
  im_ic 4 l st S I fun l st S I =>
  im_ic 5 l st S I fun l st S I =>
  im_aload 0 l st S I fun l st S I =>
  im_getR 11 0 l st S I fun l st S I =>
  im_ic 0 l st S I fun l st S I =>
  im_ald 100 l st S I fun l st S I =>
  im_callV 3 11 mi_X6_summed d (retK mi_X6_count 69 72 d Rq l) st S I), (fun l st S I =>
  im_aload 0 l st S I fun l st S I =>
  im_getI 11 6 l st S I fun l st S I =>
  im_ireturn Rq l st S I), (fun l st S I =>
  im_aload 0 l st S I fun l st S I =>
  im_getR 11 20 l st S I fun l st S I =>
  im_ic 0 l st S I fun l st S I =>
  im_ald 100 l st S I fun l st S I =>
  im_ic (-4) l st S I fun l st S I =>
  im_cne l st S I (fun l st S I =>
  im_aload 0 l st S I fun l st S I =>
  im_getR 11 21 l st S I fun l st S I =>
  im_ic 0 l st S I fun l st S I =>
  im_ald 100 l st S I fun l st S I =>
  im_ireturn Rq l st S I) (fun l st S I =>
  im_ic (-4) l st S I fun l st S I =>
  im_ireturn Rq l st S I)), (fun l st S I =>
  im_aload 0 l st S I fun l st S I =>
  im_ic 36 l st S I fun l st S I =>
  im_ic 6 l st S I fun l st S I =>
  im_aload 0 l st S I fun l st S I =>
  im_getR 11 0 l st S I fun l st S I =>
  im_ic 1 l st S I fun l st S I =>
  im_ald 100 l st S I fun l st S I =>
  im_callV 3 11 mi_X6_summed d (retK mi_X6_count 112 115 d Rq l) st S I), (fun l st S I =>
  im_aload 0 l st S I fun l st S I =>
  im_ic 8 l st S I fun l st S I =>
  im_ic 5 l st S I fun l st S I =>
  im_aload 0 l st S I fun l st S I =>
  im_getR 11 0 l st S I fun l st S I =>
  im_ic 0 l st S I fun l st S I =>
  im_ald 100 l st S I fun l st S I =>
  im_ic 1 l st S I fun l st S I =>
  im_isub l st S I fun l st S I =>
  im_callV 3 11 mi_X6_summed d (retK mi_X6_count 128 131 d Rq l) st S I)] (fun l st S I =>
  im_ic (-1) l st S I fun l st S I =>
  im_ireturn Rq l st S I) l st S I
theorem rv_X6_count_0 {d : Nat} {Rq : SmQ} {l : SmL} {st : List SmV} {S : SmS} {I : SmI} (h : tr_X6_count_0 d Rq l st S I) : SW mi_X6_count 0 d Rq l st S I :=
  (show SmW mi_X6_count 0 d Rq (tr_X6_count_0 d Rq) from
  (xv_iload_n dX6_count_0 rfl
  (xv_tsw dX6_count_1 rfl ⟨⟨40, rfl, (xv_aload_n dX6_count_40 rfl
  (xv_getR (k := 4) dX6_count_41 cl_11 tg_11 in_X6 (Nat.le_of_ble_eq_true rfl) rfl q1866
  (xv_iconst dX6_count_44 rfl (inRd rfl)
  (xv_zald dX6_count_45
  (xv_p_X6_flag dX6_count_46 (lw_S q2034 q2035 q117 q2036)
  (xv_aload_n dX6_count_49 rfl
  (xv_getR (k := 4) dX6_count_50 cl_11 tg_11 in_X6 (Nat.le_of_ble_eq_true rfl) rfl q1866
  (xv_iconst dX6_count_53 rfl (inRd rfl)
  (xv_zald dX6_count_54
  (xv_p_X6_flag dX6_count_55 (lw_S q2034 q2035 q117 q2036)
  (xv_iadd dX6_count_58
  (xv_ireturn dX6_count_59 rfl))))))))))))⟩, ⟨60, rfl, (xv_aload_n dX6_count_60 rfl
  (xv_iconst dX6_count_61 rfl (inRd rfl)
  (xv_iconst dX6_count_62 rfl (inRd rfl)
  (xv_aload_n dX6_count_63 rfl
  (xv_getR (k := 0) dX6_count_64 cl_11 tg_11 in_X6 (Nat.le_of_ble_eq_true rfl) rfl q1862
  (xv_iconst dX6_count_67 rfl (inRd rfl)
  (xv_iald dX6_count_68
  (xv_callV dX6_count_69 cl_11 tg_11 ok_X6_summed rfl (lw_V q2288 q2290 qs102 q117 q2291)))))))))⟩, ⟨73, rfl, (xv_aload_n dX6_count_73 rfl
  (xv_getI (k := 6) dX6_count_74 cl_11 tg_11 in_X6 (Nat.le_of_ble_eq_true rfl) rfl q1868
  (xv_ireturn dX6_count_77 rfl)))⟩, ⟨78, rfl, (xv_aload_n dX6_count_78 rfl
  (xv_getR (k := 20) dX6_count_79 cl_11 tg_11 in_X6 (Nat.le_of_ble_eq_true rfl) rfl q1882
  (xv_iconst dX6_count_82 rfl (inRd rfl)
  (xv_iald dX6_count_83
  (xv_bipush dX6_count_84 rfl (inRd rfl)
  (xv_cne dX6_count_86 rfl
  (xv_aload_n dX6_count_94 rfl
  (xv_getR (k := 21) dX6_count_95 cl_11 tg_11 in_X6 (Nat.le_of_ble_eq_true rfl) rfl q1883
  (xv_iconst dX6_count_98 rfl (inRd rfl)
  (xv_iald dX6_count_99
  (xv_ireturn dX6_count_100 rfl)))))
  (xv_bipush dX6_count_89 rfl (inRd rfl)
  (xv_goto dX6_count_91 rfl (xv_ireturn dX6_count_100 rfl)))))))))⟩, ⟨101, rfl, (xv_aload_n dX6_count_101 rfl
  (xv_bipush dX6_count_102 rfl (inRd rfl)
  (xv_bipush dX6_count_104 rfl (inRd rfl)
  (xv_aload_n dX6_count_106 rfl
  (xv_getR (k := 0) dX6_count_107 cl_11 tg_11 in_X6 (Nat.le_of_ble_eq_true rfl) rfl q1862
  (xv_iconst dX6_count_110 rfl (inRd rfl)
  (xv_iald dX6_count_111
  (xv_callV dX6_count_112 cl_11 tg_11 ok_X6_summed rfl (lw_V q2288 q2290 qs102 q117 q2291)))))))))⟩, ⟨116, rfl, (xv_aload_n dX6_count_116 rfl
  (xv_bipush dX6_count_117 rfl (inRd rfl)
  (xv_iconst dX6_count_119 rfl (inRd rfl)
  (xv_aload_n dX6_count_120 rfl
  (xv_getR (k := 0) dX6_count_121 cl_11 tg_11 in_X6 (Nat.le_of_ble_eq_true rfl) rfl q1862
  (xv_iconst dX6_count_124 rfl (inRd rfl)
  (xv_iald dX6_count_125
  (xv_iconst dX6_count_126 rfl (inRd rfl)
  (xv_isub dX6_count_127
  (xv_callV dX6_count_128 cl_11 tg_11 ok_X6_summed rfl (lw_V q2288 q2290 qs102 q117 q2291)))))))))))⟩, trivial⟩ rfl (xv_iconst dX6_count_132 rfl (inRd rfl)
  (xv_ireturn dX6_count_133 rfl))))) l st S I h
def tr_X6_count_72 (d : Nat) (Rq : SmQ) (l : SmL) (st : List SmV) (S : SmS) (I : SmI) : Prop :=
  im_ireturn Rq l st S I
theorem rv_X6_count_72 {d : Nat} {Rq : SmQ} {l : SmL} {st : List SmV} {S : SmS} {I : SmI} (h : tr_X6_count_72 d Rq l st S I) : SW mi_X6_count 72 d Rq l st S I :=
  (show SmW mi_X6_count 72 d Rq (tr_X6_count_72 d Rq) from
  (xv_ireturn dX6_count_72 rfl)) l st S I h
def tr_X6_count_115 (d : Nat) (Rq : SmQ) (l : SmL) (st : List SmV) (S : SmS) (I : SmI) : Prop :=
  im_ireturn Rq l st S I
theorem rv_X6_count_115 {d : Nat} {Rq : SmQ} {l : SmL} {st : List SmV} {S : SmS} {I : SmI} (h : tr_X6_count_115 d Rq l st S I) : SW mi_X6_count 115 d Rq l st S I :=
  (show SmW mi_X6_count 115 d Rq (tr_X6_count_115 d Rq) from
  (xv_ireturn dX6_count_115 rfl)) l st S I h
def tr_X6_count_131 (d : Nat) (Rq : SmQ) (l : SmL) (st : List SmV) (S : SmS) (I : SmI) : Prop :=
  im_ireturn Rq l st S I
theorem rv_X6_count_131 {d : Nat} {Rq : SmQ} {l : SmL} {st : List SmV} {S : SmS} {I : SmI} (h : tr_X6_count_131 d Rq l st S I) : SW mi_X6_count 131 d Rq l st S I :=
  (show SmW mi_X6_count 131 d Rq (tr_X6_count_131 d Rq) from
  (xv_ireturn dX6_count_131 rfl)) l st S I h
def tr_X6_rule_0 (d : Nat) (Rq : SmQ) (l : SmL) (st : List SmV) (S : SmS) (I : SmI) : Prop :=
  im_iload 1 l st S I fun l st S I =>
  im_tsw 0 8 [(fun l st S I =>
  im_aload 0 l st S I fun l st S I =>
  im_getR 11 0 l st S I fun l st S I =>
  im_iload 1 l st S I fun l st S I =>
  im_ald 100 l st S I fun l st S I =>
  im_ireturn Rq l st S I), (fun l st S I =>
  im_aload 0 l st S I fun l st S I =>
  im_getR 11 0 l st S I fun l st S I =>
  im_iload 1 l st S I fun l st S I =>
  im_ald 100 l st S I fun l st S I =>
  im_ireturn Rq l st S I), (fun l st S I =>
  im_aload 0 l st S I fun l st S I =>
  im_getR 11 0 l st S I fun l st S I =>
  im_iload 1 l st S I fun l st S I =>
  im_ald 100 l st S I fun l st S I =>
  im_ireturn Rq l st S I), (fun l st S I =>
  im_aload 0 l st S I fun l st S I =>
  im_ic 1 l st S I fun l st S I =>
  im_p_X6_withStatus d l st S I fun l st S I =>
  im_ireturn Rq l st S I), (fun l st S I =>
  im_aload 0 l st S I fun l st S I =>
  im_ic 2 l st S I fun l st S I =>
  im_p_X6_withStatus d l st S I fun l st S I =>
  im_ireturn Rq l st S I), (fun l st S I =>
  im_aload 0 l st S I fun l st S I =>
  im_getR 11 0 l st S I fun l st S I =>
  im_ic 3 l st S I fun l st S I =>
  im_ald 100 l st S I fun l st S I =>
  im_ireturn Rq l st S I), (fun l st S I =>
  im_aload 0 l st S I fun l st S I =>
  im_callV 0 11 mi_X6_isPlain d (retK mi_X6_rule 79 82 d Rq l) st S I), (fun l st S I =>
  im_aload 0 l st S I fun l st S I =>
  im_p_X6_movesLeft d l st S I fun l st S I =>
  im_ireturn Rq l st S I), (fun l st S I =>
  im_aload 0 l st S I fun l st S I =>
  im_callV 0 11 mi_X6_canGo d (retK mi_X6_rule 92 95 d Rq l) st S I)] (fun l st S I =>
  im_ic (-1) l st S I fun l st S I =>
  im_ireturn Rq l st S I) l st S I
theorem rv_X6_rule_0 {d : Nat} {Rq : SmQ} {l : SmL} {st : List SmV} {S : SmS} {I : SmI} (h : tr_X6_rule_0 d Rq l st S I) : SW mi_X6_rule 0 d Rq l st S I :=
  (show SmW mi_X6_rule 0 d Rq (tr_X6_rule_0 d Rq) from
  (xv_iload_n dX6_rule_0 rfl
  (xv_tsw dX6_rule_1 rfl ⟨⟨52, rfl, (xv_aload_n dX6_rule_52 rfl
  (xv_getR (k := 0) dX6_rule_53 cl_11 tg_11 in_X6 (Nat.le_of_ble_eq_true rfl) rfl q1862
  (xv_iload_n dX6_rule_56 rfl
  (xv_iald dX6_rule_57
  (xv_ireturn dX6_rule_58 rfl)))))⟩, ⟨52, rfl, (xv_aload_n dX6_rule_52 rfl
  (xv_getR (k := 0) dX6_rule_53 cl_11 tg_11 in_X6 (Nat.le_of_ble_eq_true rfl) rfl q1862
  (xv_iload_n dX6_rule_56 rfl
  (xv_iald dX6_rule_57
  (xv_ireturn dX6_rule_58 rfl)))))⟩, ⟨52, rfl, (xv_aload_n dX6_rule_52 rfl
  (xv_getR (k := 0) dX6_rule_53 cl_11 tg_11 in_X6 (Nat.le_of_ble_eq_true rfl) rfl q1862
  (xv_iload_n dX6_rule_56 rfl
  (xv_iald dX6_rule_57
  (xv_ireturn dX6_rule_58 rfl)))))⟩, ⟨59, rfl, (xv_aload_n dX6_rule_59 rfl
  (xv_iconst dX6_rule_60 rfl (inRd rfl)
  (xv_p_X6_withStatus dX6_rule_61 (lw_V q2077 q2079 qs74 q117 q2080)
  (xv_ireturn dX6_rule_64 rfl))))⟩, ⟨65, rfl, (xv_aload_n dX6_rule_65 rfl
  (xv_iconst dX6_rule_66 rfl (inRd rfl)
  (xv_p_X6_withStatus dX6_rule_67 (lw_V q2077 q2079 qs74 q117 q2080)
  (xv_ireturn dX6_rule_70 rfl))))⟩, ⟨71, rfl, (xv_aload_n dX6_rule_71 rfl
  (xv_getR (k := 0) dX6_rule_72 cl_11 tg_11 in_X6 (Nat.le_of_ble_eq_true rfl) rfl q1862
  (xv_iconst dX6_rule_75 rfl (inRd rfl)
  (xv_iald dX6_rule_76
  (xv_ireturn dX6_rule_77 rfl)))))⟩, ⟨78, rfl, (xv_aload_n dX6_rule_78 rfl
  (xv_callV dX6_rule_79 cl_11 tg_11 ok_X6_isPlain rfl (lw_V q2081 q2083 qs75 q117 q2084)))⟩, ⟨86, rfl, (xv_aload_n dX6_rule_86 rfl
  (xv_p_X6_movesLeft dX6_rule_87 (lw_V q2093 q2095 qs78 q117 q2096)
  (xv_ireturn dX6_rule_90 rfl)))⟩, ⟨91, rfl, (xv_aload_n dX6_rule_91 rfl
  (xv_callV dX6_rule_92 cl_11 tg_11 ok_X6_canGo rfl (lw_V q2097 q2099 qs79 q117 q2100)))⟩, trivial⟩ rfl (xv_iconst dX6_rule_96 rfl (inRd rfl)
  (xv_ireturn dX6_rule_97 rfl))))) l st S I h
def tr_X6_rule_82 (d : Nat) (Rq : SmQ) (l : SmL) (st : List SmV) (S : SmS) (I : SmI) : Prop :=
  im_p_X6_flag d l st S I fun l st S I =>
  im_ireturn Rq l st S I
theorem rv_X6_rule_82 {d : Nat} {Rq : SmQ} {l : SmL} {st : List SmV} {S : SmS} {I : SmI} (h : tr_X6_rule_82 d Rq l st S I) : SW mi_X6_rule 82 d Rq l st S I :=
  (show SmW mi_X6_rule 82 d Rq (tr_X6_rule_82 d Rq) from
  (xv_p_X6_flag dX6_rule_82 (lw_S q2034 q2035 q117 q2036)
  (xv_ireturn dX6_rule_85 rfl))) l st S I h
def tr_X6_rule_95 (d : Nat) (Rq : SmQ) (l : SmL) (st : List SmV) (S : SmS) (I : SmI) : Prop :=
  im_ireturn Rq l st S I
theorem rv_X6_rule_95 {d : Nat} {Rq : SmQ} {l : SmL} {st : List SmV} {S : SmS} {I : SmI} (h : tr_X6_rule_95 d Rq l st S I) : SW mi_X6_rule 95 d Rq l st S I :=
  (show SmW mi_X6_rule 95 d Rq (tr_X6_rule_95 d Rq) from
  (xv_ireturn dX6_rule_95 rfl)) l st S I h
def tr_X6_train_0 (d : Nat) (Rq : SmQ) (l : SmL) (st : List SmV) (S : SmS) (I : SmI) : Prop :=
  im_aload 0 l st S I fun l st S I =>
  im_iload 1 l st S I fun l st S I =>
  im_p_X6_isTrain d l st S I fun l st S I =>
  im_zne l st S I (fun l st S I =>
  im_iload 2 l st S I fun l st S I =>
  im_tsw 0 6 [(fun l st S I =>
  im_aload 0 l st S I fun l st S I =>
  im_iload 1 l st S I fun l st S I =>
  im_iload 2 l st S I fun l st S I =>
  im_p_X6_ofTrain d l st S I fun l st S I =>
  im_ireturn Rq l st S I), (fun l st S I =>
  im_aload 0 l st S I fun l st S I =>
  im_iload 1 l st S I fun l st S I =>
  im_iload 2 l st S I fun l st S I =>
  im_p_X6_ofTrain d l st S I fun l st S I =>
  im_ireturn Rq l st S I), (fun l st S I =>
  im_aload 0 l st S I fun l st S I =>
  im_iload 1 l st S I fun l st S I =>
  im_iload 2 l st S I fun l st S I =>
  im_p_X6_ofTrain d l st S I fun l st S I =>
  im_ireturn Rq l st S I), (fun l st S I =>
  im_aload 0 l st S I fun l st S I =>
  im_iload 1 l st S I fun l st S I =>
  im_p_X6_isDoneIn d l st S I fun l st S I =>
  im_zeq l st S I (fun l st S I =>
  im_aload 0 l st S I fun l st S I =>
  im_iload 1 l st S I fun l st S I =>
  im_ic 3 l st S I fun l st S I =>
  im_p_X6_ofTrain d l st S I fun l st S I =>
  im_ireturn Rq l st S I) (fun l st S I =>
  im_ic (-4) l st S I fun l st S I =>
  im_ireturn Rq l st S I)), (fun l st S I =>
  im_aload 0 l st S I fun l st S I =>
  im_iload 1 l st S I fun l st S I =>
  im_iload 2 l st S I fun l st S I =>
  im_p_X6_ofTrain d l st S I fun l st S I =>
  im_ireturn Rq l st S I), (fun l st S I =>
  im_aload 0 l st S I fun l st S I =>
  im_iload 1 l st S I fun l st S I =>
  im_iload 2 l st S I fun l st S I =>
  im_p_X6_ofTrain d l st S I fun l st S I =>
  im_ireturn Rq l st S I), (fun l st S I =>
  im_aload 0 l st S I fun l st S I =>
  im_iload 1 l st S I fun l st S I =>
  im_p_X6_minutesStill d l st S I fun l st S I =>
  im_ireturn Rq l st S I)] (fun l st S I =>
  im_ic (-1) l st S I fun l st S I =>
  im_ireturn Rq l st S I) l st S I) (fun l st S I =>
  im_ic (-1) l st S I fun l st S I =>
  im_ireturn Rq l st S I)
theorem rv_X6_train_0 {d : Nat} {Rq : SmQ} {l : SmL} {st : List SmV} {S : SmS} {I : SmI} (h : tr_X6_train_0 d Rq l st S I) : SW mi_X6_train 0 d Rq l st S I :=
  (show SmW mi_X6_train 0 d Rq (tr_X6_train_0 d Rq) from
  (xv_aload_n dX6_train_0 rfl
  (xv_iload_n dX6_train_1 rfl
  (xv_p_X6_isTrain dX6_train_2 (lw_V q2133 q2135 qs86 q117 q2136)
  (xv_zne dX6_train_5 rfl
  (xv_iload_n dX6_train_10 rfl
  (xv_tsw dX6_train_11 rfl ⟨⟨52, rfl, (xv_aload_n dX6_train_52 rfl
  (xv_iload_n dX6_train_53 rfl
  (xv_iload_n dX6_train_54 rfl
  (xv_p_X6_ofTrain dX6_train_55 (lw_V q2003 q2005 qs59 q117 q2006)
  (xv_ireturn dX6_train_58 rfl)))))⟩, ⟨52, rfl, (xv_aload_n dX6_train_52 rfl
  (xv_iload_n dX6_train_53 rfl
  (xv_iload_n dX6_train_54 rfl
  (xv_p_X6_ofTrain dX6_train_55 (lw_V q2003 q2005 qs59 q117 q2006)
  (xv_ireturn dX6_train_58 rfl)))))⟩, ⟨52, rfl, (xv_aload_n dX6_train_52 rfl
  (xv_iload_n dX6_train_53 rfl
  (xv_iload_n dX6_train_54 rfl
  (xv_p_X6_ofTrain dX6_train_55 (lw_V q2003 q2005 qs59 q117 q2006)
  (xv_ireturn dX6_train_58 rfl)))))⟩, ⟨59, rfl, (xv_aload_n dX6_train_59 rfl
  (xv_iload_n dX6_train_60 rfl
  (xv_p_X6_isDoneIn dX6_train_61 (lw_V q2015 q2017 qs62 q117 q2018)
  (xv_zeq dX6_train_64 rfl
  (xv_aload_n dX6_train_72 rfl
  (xv_iload_n dX6_train_73 rfl
  (xv_iconst dX6_train_74 rfl (inRd rfl)
  (xv_p_X6_ofTrain dX6_train_75 (lw_V q2003 q2005 qs59 q117 q2006)
  (xv_ireturn dX6_train_78 rfl)))))
  (xv_bipush dX6_train_67 rfl (inRd rfl)
  (xv_goto dX6_train_69 rfl (xv_ireturn dX6_train_78 rfl)))))))⟩, ⟨52, rfl, (xv_aload_n dX6_train_52 rfl
  (xv_iload_n dX6_train_53 rfl
  (xv_iload_n dX6_train_54 rfl
  (xv_p_X6_ofTrain dX6_train_55 (lw_V q2003 q2005 qs59 q117 q2006)
  (xv_ireturn dX6_train_58 rfl)))))⟩, ⟨52, rfl, (xv_aload_n dX6_train_52 rfl
  (xv_iload_n dX6_train_53 rfl
  (xv_iload_n dX6_train_54 rfl
  (xv_p_X6_ofTrain dX6_train_55 (lw_V q2003 q2005 qs59 q117 q2006)
  (xv_ireturn dX6_train_58 rfl)))))⟩, ⟨79, rfl, (xv_aload_n dX6_train_79 rfl
  (xv_iload_n dX6_train_80 rfl
  (xv_p_X6_minutesStill dX6_train_81 (lw_V q2137 q2139 qs87 q117 q2140)
  (xv_ireturn dX6_train_84 rfl))))⟩, trivial⟩ rfl (xv_iconst dX6_train_85 rfl (inRd rfl)
  (xv_ireturn dX6_train_86 rfl))))
  (xv_iconst dX6_train_8 rfl (inRd rfl)
  (xv_ireturn dX6_train_9 rfl))))))) l st S I h
def tr_X6_why_0 (d : Nat) (Rq : SmQ) (l : SmL) (st : List SmV) (S : SmS) (I : SmI) : Prop :=
  im_aload 0 l st S I fun l st S I =>
  im_iload 1 l st S I fun l st S I =>
  im_p_X6_isTrain d l st S I fun l st S I =>
  im_zne l st S I (fun l st S I =>
  im_aload 0 l st S I fun l st S I =>
  im_aload 0 l st S I fun l st S I =>
  im_p_X6_postureNow d l st S I fun l st S I =>
  im_callV 1 11 mi_X6_explore d (retK mi_X6_why 15 18 d Rq l) st S I) (fun l st S I =>
  im_ic (-1) l st S I fun l st S I =>
  im_ireturn Rq l st S I)
theorem rv_X6_why_0 {d : Nat} {Rq : SmQ} {l : SmL} {st : List SmV} {S : SmS} {I : SmI} (h : tr_X6_why_0 d Rq l st S I) : SW mi_X6_why 0 d Rq l st S I :=
  (show SmW mi_X6_why 0 d Rq (tr_X6_why_0 d Rq) from
  (xv_aload_n dX6_why_0 rfl
  (xv_iload_n dX6_why_1 rfl
  (xv_p_X6_isTrain dX6_why_2 (lw_V q2133 q2135 qs86 q117 q2136)
  (xv_zne dX6_why_5 rfl
  (xv_aload_n dX6_why_10 rfl
  (xv_aload_n dX6_why_11 rfl
  (xv_p_X6_postureNow dX6_why_12 (lw_V q2011 q2013 qs61 q117 q2014)
  (xv_callV dX6_why_15 cl_11 tg_11 ok_X6_explore rfl (lw_V q2049 q2051 qs69 q117 q2052)))))
  (xv_iconst dX6_why_8 rfl (inRd rfl)
  (xv_ireturn dX6_why_9 rfl))))))) l st S I h
def tr_X6_why_18 (d : Nat) (Rq : SmQ) (l : SmL) (st : List SmV) (S : SmS) (I : SmI) : Prop :=
  im_aload 0 l st S I fun l st S I =>
  im_iload 1 l st S I fun l st S I =>
  im_callV 1 11 mi_X6_against d (retK mi_X6_why 20 23 d Rq l) st S I
theorem rv_X6_why_18 {d : Nat} {Rq : SmQ} {l : SmL} {st : List SmV} {S : SmS} {I : SmI} (h : tr_X6_why_18 d Rq l st S I) : SW mi_X6_why 18 d Rq l st S I :=
  (show SmW mi_X6_why 18 d Rq (tr_X6_why_18 d Rq) from
  (xv_aload_n dX6_why_18 rfl
  (xv_iload_n dX6_why_19 rfl
  (xv_callV dX6_why_20 cl_11 tg_11 ok_X6_against rfl (lw_V q2101 q2103 qs80 q117 q2104))))) l st S I h
def tr_X6_why_23 (d : Nat) (Rq : SmQ) (l : SmL) (st : List SmV) (S : SmS) (I : SmI) : Prop :=
  im_ireturn Rq l st S I
theorem rv_X6_why_23 {d : Nat} {Rq : SmQ} {l : SmL} {st : List SmV} {S : SmS} {I : SmI} (h : tr_X6_why_23 d Rq l st S I) : SW mi_X6_why 23 d Rq l st S I :=
  (show SmW mi_X6_why 23 d Rq (tr_X6_why_23 d Rq) from
  (xv_ireturn dX6_why_23 rfl)) l st S I h
def tr_X6_order_0 (d : Nat) (Rq : SmQ) (l : SmL) (st : List SmV) (S : SmS) (I : SmI) : Prop :=
  im_iload 1 l st S I fun l st S I =>
  im_zge l st S I (fun l st S I =>
  im_aload 0 l st S I fun l st S I =>
  im_callV 0 11 mi_X6_findSequence d (retK mi_X6_order 7 10 d Rq l) st S I) (fun l st S I =>
  im_ic (-1) l st S I fun l st S I =>
  im_ireturn Rq l st S I)
theorem rv_X6_order_0 {d : Nat} {Rq : SmQ} {l : SmL} {st : List SmV} {S : SmS} {I : SmI} (h : tr_X6_order_0 d Rq l st S I) : SW mi_X6_order 0 d Rq l st S I :=
  (show SmW mi_X6_order 0 d Rq (tr_X6_order_0 d Rq) from
  (xv_iload_n dX6_order_0 rfl
  (xv_zge dX6_order_1 rfl
  (xv_aload_n dX6_order_6 rfl
  (xv_callV dX6_order_7 cl_11 tg_11 ok_X6_findSequence rfl (lw_V q2085 q2087 qs76 q117 q2088)))
  (xv_iconst dX6_order_4 rfl (inRd rfl)
  (xv_ireturn dX6_order_5 rfl))))) l st S I h
def tr_X6_order_10 (d : Nat) (Rq : SmQ) (l : SmL) (st : List SmV) (S : SmS) (I : SmI) : Prop :=
  im_iload 1 l st S I fun l st S I =>
  im_aload 0 l st S I fun l st S I =>
  im_getI 11 19 l st S I fun l st S I =>
  im_cge l st S I (fun l st S I =>
  im_ic (-4) l st S I fun l st S I =>
  im_ireturn Rq l st S I) (fun l st S I =>
  im_aload 0 l st S I fun l st S I =>
  im_getR 11 18 l st S I fun l st S I =>
  im_iload 1 l st S I fun l st S I =>
  im_ald 100 l st S I fun l st S I =>
  im_ireturn Rq l st S I)
theorem rv_X6_order_10 {d : Nat} {Rq : SmQ} {l : SmL} {st : List SmV} {S : SmS} {I : SmI} (h : tr_X6_order_10 d Rq l st S I) : SW mi_X6_order 10 d Rq l st S I :=
  (show SmW mi_X6_order 10 d Rq (tr_X6_order_10 d Rq) from
  (xv_iload_n dX6_order_10 rfl
  (xv_aload_n dX6_order_11 rfl
  (xv_getI (k := 19) dX6_order_12 cl_11 tg_11 in_X6 (Nat.le_of_ble_eq_true rfl) rfl q1881
  (xv_cge dX6_order_15 rfl
  (xv_bipush dX6_order_27 rfl (inRd rfl)
  (xv_ireturn dX6_order_29 rfl))
  (xv_aload_n dX6_order_18 rfl
  (xv_getR (k := 18) dX6_order_19 cl_11 tg_11 in_X6 (Nat.le_of_ble_eq_true rfl) rfl q1880
  (xv_iload_n dX6_order_22 rfl
  (xv_iald dX6_order_23
  (xv_goto dX6_order_24 rfl (xv_ireturn dX6_order_29 rfl))))))))))) l st S I h
def tr_X6_reach_0 (d : Nat) (Rq : SmQ) (l : SmL) (st : List SmV) (S : SmS) (I : SmI) : Prop :=
  im_iload 1 l st S I fun l st S I =>
  im_i2l l st S I fun l st S I =>
  im_lc 0 l st S I fun l st S I =>
  im_lc 1 l st S I fun l st S I =>
  im_p_X6_in d l st S I fun l st S I =>
  im_zne l st S I (fun l st S I =>
  im_aload 0 l st S I fun l st S I =>
  im_aload 0 l st S I fun l st S I =>
  im_p_X6_postureNow d l st S I fun l st S I =>
  im_callV 1 11 mi_X6_explore d (retK mi_X6_reach 17 20 d Rq l) st S I) (fun l st S I =>
  im_ic (-1) l st S I fun l st S I =>
  im_ireturn Rq l st S I)
theorem rv_X6_reach_0 {d : Nat} {Rq : SmQ} {l : SmL} {st : List SmV} {S : SmS} {I : SmI} (h : tr_X6_reach_0 d Rq l st S I) : SW mi_X6_reach 0 d Rq l st S I :=
  (show SmW mi_X6_reach 0 d Rq (tr_X6_reach_0 d Rq) from
  (xv_iload_n dX6_reach_0 rfl
  (xv_i2l dX6_reach_1
  (xv_lconst dX6_reach_2 rfl (inR64d rfl)
  (xv_lconst dX6_reach_3 rfl (inR64d rfl)
  (xv_p_X6_in dX6_reach_4 (lw_S q1940 q1941 q117 q1942)
  (xv_zne dX6_reach_7 rfl
  (xv_aload_n dX6_reach_12 rfl
  (xv_aload_n dX6_reach_13 rfl
  (xv_p_X6_postureNow dX6_reach_14 (lw_V q2011 q2013 qs61 q117 q2014)
  (xv_callV dX6_reach_17 cl_11 tg_11 ok_X6_explore rfl (lw_V q2049 q2051 qs69 q117 q2052)))))
  (xv_iconst dX6_reach_10 rfl (inRd rfl)
  (xv_ireturn dX6_reach_11 rfl))))))))) l st S I h
def tr_X6_reach_20 (d : Nat) (Rq : SmQ) (l : SmL) (st : List SmV) (S : SmS) (I : SmI) : Prop :=
  im_ic 0 l st S I fun l st S I =>
  im_istore 2 l st S I fun l st S I =>
  im_ic 0 l st S I fun l st S I =>
  im_istore 3 l st S I fun l st S I =>
  SW mi_X6_reach 24 d Rq l st S I
theorem rv_X6_reach_20 {d : Nat} {Rq : SmQ} {l : SmL} {st : List SmV} {S : SmS} {I : SmI} (h : tr_X6_reach_20 d Rq l st S I) : SW mi_X6_reach 20 d Rq l st S I :=
  (show SmW mi_X6_reach 20 d Rq (tr_X6_reach_20 d Rq) from
  (xv_iconst dX6_reach_20 rfl (inRd rfl)
  (xv_istore_n dX6_reach_21 rfl (Nat.le_of_ble_eq_true rfl)
  (xv_iconst dX6_reach_22 rfl (inRd rfl)
  (xv_istore_n dX6_reach_23 rfl (Nat.le_of_ble_eq_true rfl)
  (fun _ _ _ _ h => h)))))) l st S I h
def tr_X6_reach_24 (d : Nat) (Rq : SmQ) (l : SmL) (st : List SmV) (S : SmS) (I : SmI) : Prop :=
  im_iload 3 l st S I fun l st S I =>
  im_aload 0 l st S I fun l st S I =>
  im_getI 11 17 l st S I fun l st S I =>
  im_cge l st S I (fun l st S I =>
  im_iload 2 l st S I fun l st S I =>
  im_ireturn Rq l st S I) (fun l st S I =>
  im_iload 2 l st S I fun l st S I =>
  im_iload 1 l st S I fun l st S I =>
  im_zeq l st S I (fun l st S I =>
  SW mi_X6_reach 51 d Rq l st S I) (fun l st S I =>
  im_aload 0 l st S I fun l st S I =>
  im_getR 11 16 l st S I fun l st S I =>
  im_aload 0 l st S I fun l st S I =>
  im_getR 11 14 l st S I fun l st S I =>
  im_iload 3 l st S I fun l st S I =>
  im_ald 100 l st S I fun l st S I =>
  im_ald 102 l st S I fun l st S I =>
  im_zeq l st S I (fun l st S I =>
  im_ic 0 l st S I fun l st S I =>
  im_p_X6_flag d l st S I fun l st S I =>
  im_iadd l st S I fun l st S I =>
  im_istore 2 l st S I fun l st S I =>
  im_iinc 3 1 l st S I fun l st S I =>
  SW mi_X6_reach 24 d Rq l st S I) (fun l st S I =>
  SW mi_X6_reach 51 d Rq l st S I)))
theorem rv_X6_reach_24 {d : Nat} {Rq : SmQ} {l : SmL} {st : List SmV} {S : SmS} {I : SmI} (h : tr_X6_reach_24 d Rq l st S I) : SW mi_X6_reach 24 d Rq l st S I :=
  (show SmW mi_X6_reach 24 d Rq (tr_X6_reach_24 d Rq) from
  (xv_iload_n dX6_reach_24 rfl
  (xv_aload_n dX6_reach_25 rfl
  (xv_getI (k := 17) dX6_reach_26 cl_11 tg_11 in_X6 (Nat.le_of_ble_eq_true rfl) rfl q1879
  (xv_cge dX6_reach_29 rfl
  (xv_iload_n dX6_reach_67 rfl
  (xv_ireturn dX6_reach_68 rfl))
  (xv_iload_n dX6_reach_32 rfl
  (xv_iload_n dX6_reach_33 rfl
  (xv_zeq dX6_reach_34 rfl
  (fun _ _ _ _ h => h)
  (xv_aload_n dX6_reach_37 rfl
  (xv_getR (k := 16) dX6_reach_38 cl_11 tg_11 in_X6 (Nat.le_of_ble_eq_true rfl) rfl q1878
  (xv_aload_n dX6_reach_41 rfl
  (xv_getR (k := 14) dX6_reach_42 cl_11 tg_11 in_X6 (Nat.le_of_ble_eq_true rfl) rfl q1876
  (xv_iload_n dX6_reach_45 rfl
  (xv_iald dX6_reach_46
  (xv_zald dX6_reach_47
  (xv_zeq dX6_reach_48 rfl
  (xv_iconst dX6_reach_55 rfl (inRd rfl)
  (xv_p_X6_flag dX6_reach_56 (lw_S q2034 q2035 q117 q2036)
  (xv_iadd dX6_reach_59
  (xv_istore_n dX6_reach_60 rfl (Nat.le_of_ble_eq_true rfl)
  (xv_iinc dX6_reach_61 (Nat.le_of_ble_eq_true rfl)
  (xv_goto dX6_reach_64 rfl (fun _ _ _ _ h => h)))))))
  (fun _ _ _ _ h => h))))))))))))))))) l st S I h
def tr_X6_reach_51 (d : Nat) (Rq : SmQ) (l : SmL) (st : List SmV) (S : SmS) (I : SmI) : Prop :=
  im_ic 1 l st S I fun l st S I =>
  im_p_X6_flag d l st S I fun l st S I =>
  im_iadd l st S I fun l st S I =>
  im_istore 2 l st S I fun l st S I =>
  im_iinc 3 1 l st S I fun l st S I =>
  SW mi_X6_reach 24 d Rq l st S I
theorem rv_X6_reach_51 {d : Nat} {Rq : SmQ} {l : SmL} {st : List SmV} {S : SmS} {I : SmI} (h : tr_X6_reach_51 d Rq l st S I) : SW mi_X6_reach 51 d Rq l st S I :=
  (show SmW mi_X6_reach 51 d Rq (tr_X6_reach_51 d Rq) from
  (xv_iconst dX6_reach_51 rfl (inRd rfl)
  (xv_goto dX6_reach_52 rfl (xv_p_X6_flag dX6_reach_56 (lw_S q2034 q2035 q117 q2036)
  (xv_iadd dX6_reach_59
  (xv_istore_n dX6_reach_60 rfl (Nat.le_of_ble_eq_true rfl)
  (xv_iinc dX6_reach_61 (Nat.le_of_ble_eq_true rfl)
  (xv_goto dX6_reach_64 rfl (fun _ _ _ _ h => h))))))))) l st S I h
