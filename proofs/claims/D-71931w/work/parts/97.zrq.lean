/-! regions of methods, printed by gen/regions.py -/
set_option maxRecDepth 100000
/- J6_add: cut at [0, 5] -/
abbrev mi_J6_add : SmM := (yJ6_add, cJ6_add, 2, (some FieldType.boolean : Option FieldType), [])
theorem ok_J6_add : callOk mi_J6_add 1 := ⟨rfl, rfl, Nat.le_of_ble_eq_true rfl, by decide, by decide, by decide +kernel⟩
theorem ent_J6_add (x : Option Nat) (x0 : Option Nat) : entL (mL mi_J6_add) [vR x, vR x0] = [some (vR x), some (vR x0)] := rfl
/- J6_offer: cut at [0, 11, 43, 49] -/
abbrev mi_J6_offer : SmM := (yJ6_offer, cJ6_offer, 3, (some FieldType.boolean : Option FieldType), [])
theorem ok_J6_offer : callOk mi_J6_offer 1 := ⟨rfl, rfl, Nat.le_of_ble_eq_true rfl, by decide, by decide, by decide +kernel⟩
theorem ent_J6_offer (x : Option Nat) (x0 : Option Nat) : entL (mL mi_J6_offer) [vR x, vR x0] = [some (vR x), some (vR x0), none] := rfl
/- J6_grow: cut at [0, 28, 38] -/
abbrev mi_J6_grow : SmM := (yJ6_grow, cJ6_grow, 4, (none : Option FieldType), [])
theorem ok_J6_grow : callOk mi_J6_grow 1 := ⟨rfl, rfl, Nat.le_of_ble_eq_true rfl, by decide, by decide, by decide +kernel⟩
theorem ent_J6_grow (x : Option Nat) (x0 : Int) : entL (mL mi_J6_grow) [vR x, vI x0] = [some (vR x), some (vI x0), none, none] := rfl
/- J6_siftUp: cut at [0, 20, 32] -/
abbrev mi_J6_siftUp : SmM := (yJ6_siftUp, cJ6_siftUp, 3, (none : Option FieldType), [])
theorem ok_J6_siftUp : callOk mi_J6_siftUp 2 := ⟨rfl, rfl, Nat.le_of_ble_eq_true rfl, by decide, by decide, by decide +kernel⟩
theorem ent_J6_siftUp (x : Option Nat) (x0 : Int) (x1 : Option Nat) : entL (mL mi_J6_siftUp) [vR x, vI x0, vR x1] = [some (vR x), some (vI x0), some (vR x1)] := rfl
/- J6_siftUpComparable: cut at [0, 5, 30] -/
abbrev mi_J6_siftUpComparable : SmM := (yJ6_siftUpComparable, cJ6_siftUpComparable, 6, (none : Option FieldType), [])
theorem ok_J6_siftUpComparable : callOk mi_J6_siftUpComparable 3 := ⟨rfl, rfl, Nat.le_of_ble_eq_true rfl, by decide, by decide, by decide +kernel⟩
theorem ent_J6_siftUpComparable (x0 : Int) (x1 : Option Nat) (x2 : Option Nat) : entL (mL mi_J6_siftUpComparable) [vI x0, vR x1, vR x2] = [some (vI x0), some (vR x1), some (vR x2), none, none, none] := rfl
/- J6_siftUpUsingComparator: cut at [0, 26] -/
abbrev mi_J6_siftUpUsingComparator : SmM := (yJ6_siftUpUsingComparator, cJ6_siftUpUsingComparator, 6, (none : Option FieldType), [])
theorem ok_J6_siftUpUsingComparator : callOk mi_J6_siftUpUsingComparator 4 := ⟨rfl, rfl, Nat.le_of_ble_eq_true rfl, by decide, by decide, by decide +kernel⟩
theorem ent_J6_siftUpUsingComparator (x0 : Int) (x1 : Option Nat) (x2 : Option Nat) (x3 : Option Nat) : entL (mL mi_J6_siftUpUsingComparator) [vI x0, vR x1, vR x2, vR x3] = [some (vI x0), some (vR x1), some (vR x2), some (vR x3), none, none] := rfl
/- J6_size: cut at [0] -/
abbrev mi_J6_size : SmM := (yJ6_size, cJ6_size, 1, (some FieldType.int : Option FieldType), [])
theorem ok_J6_size : callOk mi_J6_size 0 := ⟨rfl, rfl, Nat.le_of_ble_eq_true rfl, by decide, by decide, by decide +kernel⟩
theorem ent_J6_size (x : Option Nat) : entL (mL mi_J6_size) [vR x] = [some (vR x)] := rfl
/- J6_poll: cut at [0, 66, 79] -/
abbrev mi_J6_poll : SmM := (yJ6_poll, cJ6_poll, 6, (some (FieldType.object "java/lang/Object") : Option FieldType), [])
theorem ok_J6_poll : callOk mi_J6_poll 0 := ⟨rfl, rfl, Nat.le_of_ble_eq_true rfl, by decide, by decide, by decide +kernel⟩
theorem ent_J6_poll (x : Option Nat) : entL (mL mi_J6_poll) [vR x] = [some (vR x), none, none, none, none, none] := rfl
/- J6_siftDownComparable: cut at [0, 11, 56, 77] -/
abbrev mi_J6_siftDownComparable : SmM := (yJ6_siftDownComparable, cJ6_siftDownComparable, 9, (none : Option FieldType), [])
theorem ok_J6_siftDownComparable : callOk mi_J6_siftDownComparable 4 := ⟨rfl, rfl, Nat.le_of_ble_eq_true rfl, by decide, by decide, by decide +kernel⟩
theorem ent_J6_siftDownComparable (x0 : Int) (x1 : Option Nat) (x2 : Option Nat) (x3 : Int) : entL (mL mi_J6_siftDownComparable) [vI x0, vR x1, vR x2, vI x3] = [some (vI x0), some (vR x1), some (vR x2), some (vI x3), none, none, none, none, none] := rfl
/- J6_siftDownUsingComparator: cut at [0, 5, 49, 71] -/
abbrev mi_J6_siftDownUsingComparator : SmM := (yJ6_siftDownUsingComparator, cJ6_siftDownUsingComparator, 9, (none : Option FieldType), [])
theorem ok_J6_siftDownUsingComparator : callOk mi_J6_siftDownUsingComparator 5 := ⟨rfl, rfl, Nat.le_of_ble_eq_true rfl, by decide, by decide, by decide +kernel⟩
theorem ent_J6_siftDownUsingComparator (x0 : Int) (x1 : Option Nat) (x2 : Option Nat) (x3 : Int) (x4 : Option Nat) : entL (mL mi_J6_siftDownUsingComparator) [vI x0, vR x1, vR x2, vI x3, vR x4] = [some (vI x0), some (vR x1), some (vR x2), some (vI x3), some (vR x4), none, none, none, none] := rfl
/- X9_init: cut at [0] -/
abbrev mi_X9_init : SmM := (yX9_init, cX9_init, 3, (none : Option FieldType), [])
theorem ok_X9_init : callOk mi_X9_init 2 := ⟨rfl, rfl, Nat.le_of_ble_eq_true rfl, by decide, by decide, by decide +kernel⟩
theorem ent_X9_init (x : Option Nat) (x0 : Int) (x1 : Int) : entL (mL mi_X9_init) [vR x, vI x0, vI x1] = [some (vR x), some (vI x0), some (vI x1)] := rfl
/- X3_compare_2: cut at [0, 22, 36] -/
abbrev mi_X3_compare_2 : SmM := (yX3_compare_2, cX3_compare_2, 3, (some FieldType.int : Option FieldType), [])
theorem ok_X3_compare_2 : callOk mi_X3_compare_2 2 := ⟨rfl, rfl, Nat.le_of_ble_eq_true rfl, by decide, by decide, by decide +kernel⟩
theorem ent_X3_compare_2 (x : Option Nat) (x0 : Option Nat) (x1 : Option Nat) : entL (mL mi_X3_compare_2) [vR x, vR x0, vR x1] = [some (vR x), some (vR x0), some (vR x1)] := rfl
/- X3_init: cut at [0] -/
abbrev mi_X3_init : SmM := (yX3_init, cX3_init, 1, (none : Option FieldType), [])
theorem ok_X3_init : callOk mi_X3_init 0 := ⟨rfl, rfl, Nat.le_of_ble_eq_true rfl, by decide, by decide, by decide +kernel⟩
theorem ent_X3_init (x : Option Nat) : entL (mL mi_X3_init) [vR x] = [some (vR x)] := rfl
def tr_J6_add_0 (d : Nat) (Rq : SmQ) (l : SmL) (st : List SmV) (S : SmS) (I : SmI) : Prop :=
  im_aload 0 l st S I fun l st S I =>
  im_aload 1 l st S I fun l st S I =>
  im_callV 1 17 mi_J6_offer d (retK mi_J6_add 2 5 d Rq l) st S I
theorem rv_J6_add_0 {d : Nat} {Rq : SmQ} {l : SmL} {st : List SmV} {S : SmS} {I : SmI} (h : tr_J6_add_0 d Rq l st S I) : SW mi_J6_add 0 d Rq l st S I :=
  (show SmW mi_J6_add 0 d Rq (tr_J6_add_0 d Rq) from
  (xv_aload_n dJ6_add_0 rfl
  (xv_aload_n dJ6_add_1 rfl
  (xv_callV dJ6_add_2 cl_17 tg_17 ok_J6_offer rfl (lw_V q746 q747 q748 q113 q749))))) l st S I h
def tr_J6_add_5 (d : Nat) (Rq : SmQ) (l : SmL) (st : List SmV) (S : SmS) (I : SmI) : Prop :=
  im_zreturn Rq l st S I
theorem rv_J6_add_5 {d : Nat} {Rq : SmQ} {l : SmL} {st : List SmV} {S : SmS} {I : SmI} (h : tr_J6_add_5 d Rq l st S I) : SW mi_J6_add 5 d Rq l st S I :=
  (show SmW mi_J6_add 5 d Rq (tr_J6_add_5 d Rq) from
  (xv_zreturn dJ6_add_5 rfl)) l st S I h
def tr_J6_offer_0 (d : Nat) (Rq : SmQ) (l : SmL) (st : List SmV) (S : SmS) (I : SmI) : Prop :=
  im_aload 1 l st S I fun l st S I =>
  im_ifnn l st S I (fun l st S I =>
  im_aload 0 l st S I fun l st S I =>
  im_dup l st S I fun l st S I =>
  im_getI 17 3 l st S I fun l st S I =>
  im_ic 1 l st S I fun l st S I =>
  im_iadd l st S I fun l st S I =>
  im_putI 17 3 l st S I fun l st S I =>
  im_aload 0 l st S I fun l st S I =>
  im_getI 17 1 l st S I fun l st S I =>
  im_istore 2 l st S I fun l st S I =>
  im_iload 2 l st S I fun l st S I =>
  im_aload 0 l st S I fun l st S I =>
  im_getR 17 0 l st S I fun l st S I =>
  im_alen l st S I fun l st S I =>
  im_clt l st S I (fun l st S I =>
  SW mi_J6_offer 43 d Rq l st S I) (fun l st S I =>
  im_aload 0 l st S I fun l st S I =>
  im_iload 2 l st S I fun l st S I =>
  im_ic 1 l st S I fun l st S I =>
  im_iadd l st S I fun l st S I =>
  im_callV 1 17 mi_J6_grow d (retK mi_J6_offer 40 43 d Rq l) st S I)) (fun l st S I =>
  False)
theorem rv_J6_offer_0 {d : Nat} {Rq : SmQ} {l : SmL} {st : List SmV} {S : SmS} {I : SmI} (h : tr_J6_offer_0 d Rq l st S I) : SW mi_J6_offer 0 d Rq l st S I :=
  (show SmW mi_J6_offer 0 d Rq (tr_J6_offer_0 d Rq) from
  (xv_aload_n dJ6_offer_0 rfl
  (xv_ifnn dJ6_offer_1 rfl
  (xv_aload_n dJ6_offer_12 rfl
  (xv_dup dJ6_offer_13
  (xv_getI (k := 3) dJ6_offer_14 cl_17 tg_17 in_J6 (Nat.le_of_ble_eq_true rfl) rfl q1660
  (xv_iconst dJ6_offer_17 rfl (inRd rfl)
  (xv_iadd dJ6_offer_18
  (xv_putI (k := 3) dJ6_offer_19 cl_17 tg_17 in_J6 tyJ6_ok nmJ6 (Nat.le_of_ble_eq_true rfl) rfl ⟨Or.inl q1660, Or.inl rfl⟩
  (xv_aload_n dJ6_offer_22 rfl
  (xv_getI (k := 1) dJ6_offer_23 cl_17 tg_17 in_J6 (Nat.le_of_ble_eq_true rfl) rfl q1657
  (xv_istore_n dJ6_offer_26 rfl (Nat.le_of_ble_eq_true rfl)
  (xv_iload_n dJ6_offer_27 rfl
  (xv_aload_n dJ6_offer_28 rfl
  (xv_getR (k := 0) dJ6_offer_29 cl_17 tg_17 in_J6 (Nat.le_of_ble_eq_true rfl) rfl q1655
  (xv_alen dJ6_offer_32
  (xv_clt dJ6_offer_33 rfl
  (fun _ _ _ _ h => h)
  (xv_aload_n dJ6_offer_36 rfl
  (xv_iload_n dJ6_offer_37 rfl
  (xv_iconst dJ6_offer_38 rfl (inRd rfl)
  (xv_iadd dJ6_offer_39
  (xv_callV dJ6_offer_40 cl_17 tg_17 ok_J6_grow rfl (lw_V q775 q777 qs28 q113 q779))))))))))))))))))))
  (fun _ _ _ _ h => h.elim)))) l st S I h
def tr_J6_offer_11 (d : Nat) (Rq : SmQ) (l : SmL) (st : List SmV) (S : SmS) (I : SmI) : Prop :=
  im_athrow mi_J6_offer 11 d Rq l st S I
theorem rv_J6_offer_11 {d : Nat} {Rq : SmQ} {l : SmL} {st : List SmV} {S : SmS} {I : SmI} (h : tr_J6_offer_11 d Rq l st S I) : SW mi_J6_offer 11 d Rq l st S I :=
  (show SmW mi_J6_offer 11 d Rq (tr_J6_offer_11 d Rq) from
  (xv_athrow dJ6_offer_11)) l st S I h
def tr_J6_offer_43 (d : Nat) (Rq : SmQ) (l : SmL) (st : List SmV) (S : SmS) (I : SmI) : Prop :=
  im_aload 0 l st S I fun l st S I =>
  im_iload 2 l st S I fun l st S I =>
  im_aload 1 l st S I fun l st S I =>
  im_callV 2 17 mi_J6_siftUp d (retK mi_J6_offer 46 49 d Rq l) st S I
theorem rv_J6_offer_43 {d : Nat} {Rq : SmQ} {l : SmL} {st : List SmV} {S : SmS} {I : SmI} (h : tr_J6_offer_43 d Rq l st S I) : SW mi_J6_offer 43 d Rq l st S I :=
  (show SmW mi_J6_offer 43 d Rq (tr_J6_offer_43 d Rq) from
  (xv_aload_n dJ6_offer_43 rfl
  (xv_iload_n dJ6_offer_44 rfl
  (xv_aload_n dJ6_offer_45 rfl
  (xv_callV dJ6_offer_46 cl_17 tg_17 ok_J6_siftUp rfl (lw_V q827 q829 qs29 q113 q830)))))) l st S I h
def tr_J6_offer_49 (d : Nat) (Rq : SmQ) (l : SmL) (st : List SmV) (S : SmS) (I : SmI) : Prop :=
  im_aload 0 l st S I fun l st S I =>
  im_iload 2 l st S I fun l st S I =>
  im_ic 1 l st S I fun l st S I =>
  im_iadd l st S I fun l st S I =>
  im_putI 17 1 l st S I fun l st S I =>
  im_ic 1 l st S I fun l st S I =>
  im_zreturn Rq l st S I
theorem rv_J6_offer_49 {d : Nat} {Rq : SmQ} {l : SmL} {st : List SmV} {S : SmS} {I : SmI} (h : tr_J6_offer_49 d Rq l st S I) : SW mi_J6_offer 49 d Rq l st S I :=
  (show SmW mi_J6_offer 49 d Rq (tr_J6_offer_49 d Rq) from
  (xv_aload_n dJ6_offer_49 rfl
  (xv_iload_n dJ6_offer_50 rfl
  (xv_iconst dJ6_offer_51 rfl (inRd rfl)
  (xv_iadd dJ6_offer_52
  (xv_putI (k := 1) dJ6_offer_53 cl_17 tg_17 in_J6 tyJ6_ok nmJ6 (Nat.le_of_ble_eq_true rfl) rfl ⟨Or.inl q1657, Or.inl rfl⟩
  (xv_iconst dJ6_offer_56 rfl (inRd rfl)
  (xv_zreturn dJ6_offer_57 rfl)))))))) l st S I h
def tr_J6_siftUp_0 (d : Nat) (Rq : SmQ) (l : SmL) (st : List SmV) (S : SmS) (I : SmI) : Prop :=
  im_aload 0 l st S I fun l st S I =>
  im_getR 17 2 l st S I fun l st S I =>
  im_ifnull l st S I (fun l st S I =>
  im_iload 1 l st S I fun l st S I =>
  im_aload 2 l st S I fun l st S I =>
  im_aload 0 l st S I fun l st S I =>
  im_getR 17 0 l st S I fun l st S I =>
  im_callS 3 mi_J6_siftUpComparable d (retK mi_J6_siftUp 29 32 d Rq l) st S I) (fun l st S I =>
  im_iload 1 l st S I fun l st S I =>
  im_aload 2 l st S I fun l st S I =>
  im_aload 0 l st S I fun l st S I =>
  im_getR 17 0 l st S I fun l st S I =>
  im_aload 0 l st S I fun l st S I =>
  im_getR 17 2 l st S I fun l st S I =>
  im_callS 4 mi_J6_siftUpUsingComparator d (retK mi_J6_siftUp 17 20 d Rq l) st S I)
theorem rv_J6_siftUp_0 {d : Nat} {Rq : SmQ} {l : SmL} {st : List SmV} {S : SmS} {I : SmI} (h : tr_J6_siftUp_0 d Rq l st S I) : SW mi_J6_siftUp 0 d Rq l st S I :=
  (show SmW mi_J6_siftUp 0 d Rq (tr_J6_siftUp_0 d Rq) from
  (xv_aload_n dJ6_siftUp_0 rfl
  (xv_getR (k := 2) dJ6_siftUp_1 cl_17 tg_17 in_J6 (Nat.le_of_ble_eq_true rfl) rfl q1658
  (xv_ifnull dJ6_siftUp_4 rfl
  (xv_iload_n dJ6_siftUp_23 rfl
  (xv_aload_n dJ6_siftUp_24 rfl
  (xv_aload_n dJ6_siftUp_25 rfl
  (xv_getR (k := 0) dJ6_siftUp_26 cl_17 tg_17 in_J6 (Nat.le_of_ble_eq_true rfl) rfl q1655
  (xv_callS dJ6_siftUp_29 ok_J6_siftUpComparable (lw_S q852 q853 q113 q854))))))
  (xv_iload_n dJ6_siftUp_7 rfl
  (xv_aload_n dJ6_siftUp_8 rfl
  (xv_aload_n dJ6_siftUp_9 rfl
  (xv_getR (k := 0) dJ6_siftUp_10 cl_17 tg_17 in_J6 (Nat.le_of_ble_eq_true rfl) rfl q1655
  (xv_aload_n dJ6_siftUp_13 rfl
  (xv_getR (k := 2) dJ6_siftUp_14 cl_17 tg_17 in_J6 (Nat.le_of_ble_eq_true rfl) rfl q1658
  (xv_callS dJ6_siftUp_17 ok_J6_siftUpUsingComparator (lw_S q831 q832 q113 q833)))))))))))) l st S I h
def tr_J6_siftUp_20 (d : Nat) (Rq : SmQ) (l : SmL) (st : List SmV) (S : SmS) (I : SmI) : Prop :=
  SW mi_J6_siftUp 32 d Rq l st S I
theorem rv_J6_siftUp_20 {d : Nat} {Rq : SmQ} {l : SmL} {st : List SmV} {S : SmS} {I : SmI} (h : tr_J6_siftUp_20 d Rq l st S I) : SW mi_J6_siftUp 20 d Rq l st S I :=
  (show SmW mi_J6_siftUp 20 d Rq (tr_J6_siftUp_20 d Rq) from
  (xv_goto dJ6_siftUp_20 rfl (fun _ _ _ _ h => h))) l st S I h
def tr_J6_siftUp_32 (d : Nat) (Rq : SmQ) (l : SmL) (st : List SmV) (S : SmS) (I : SmI) : Prop :=
  im_return Rq l st S I
theorem rv_J6_siftUp_32 {d : Nat} {Rq : SmQ} {l : SmL} {st : List SmV} {S : SmS} {I : SmI} (h : tr_J6_siftUp_32 d Rq l st S I) : SW mi_J6_siftUp 32 d Rq l st S I :=
  (show SmW mi_J6_siftUp 32 d Rq (tr_J6_siftUp_32 d Rq) from
  (xv_return dJ6_siftUp_32 rfl)) l st S I h
def tr_J6_siftUpUsingComparator_0 (d : Nat) (Rq : SmQ) (l : SmL) (st : List SmV) (S : SmS) (I : SmI) : Prop :=
  im_iload 0 l st S I fun l st S I =>
  im_zle l st S I (fun l st S I =>
  im_aload 2 l st S I fun l st S I =>
  im_iload 0 l st S I fun l st S I =>
  im_aload 1 l st S I fun l st S I =>
  im_aast 107 l st S I fun l st S I =>
  im_return Rq l st S I) (fun l st S I =>
  im_iload 0 l st S I fun l st S I =>
  im_ic 1 l st S I fun l st S I =>
  im_isub l st S I fun l st S I =>
  im_ic 1 l st S I fun l st S I =>
  im_iushr l st S I fun l st S I =>
  im_istore 4 l st S I fun l st S I =>
  im_aload 2 l st S I fun l st S I =>
  im_iload 4 l st S I fun l st S I =>
  im_aald 107 l st S I fun l st S I =>
  im_astore 5 l st S I fun l st S I =>
  im_aload 3 l st S I fun l st S I =>
  im_aload 1 l st S I fun l st S I =>
  im_aload 5 l st S I fun l st S I =>
  im_callV 2 10 mi_X3_compare d (retK mi_J6_siftUpUsingComparator 21 26 d Rq l) st S I)
theorem rv_J6_siftUpUsingComparator_0 {d : Nat} {Rq : SmQ} {l : SmL} {st : List SmV} {S : SmS} {I : SmI} (h : tr_J6_siftUpUsingComparator_0 d Rq l st S I) : SW mi_J6_siftUpUsingComparator 0 d Rq l st S I :=
  (show SmW mi_J6_siftUpUsingComparator 0 d Rq (tr_J6_siftUpUsingComparator_0 d Rq) from
  (xv_iload_n dJ6_siftUpUsingComparator_0 rfl
  (xv_zle dJ6_siftUpUsingComparator_1 rfl
  (xv_aload_n dJ6_siftUpUsingComparator_43 rfl
  (xv_iload_n dJ6_siftUpUsingComparator_44 rfl
  (xv_aload_n dJ6_siftUpUsingComparator_45 rfl
  (xv_aast_107 dJ6_siftUpUsingComparator_46
  (xv_return dJ6_siftUpUsingComparator_47 rfl)))))
  (xv_iload_n dJ6_siftUpUsingComparator_4 rfl
  (xv_iconst dJ6_siftUpUsingComparator_5 rfl (inRd rfl)
  (xv_isub dJ6_siftUpUsingComparator_6
  (xv_iconst dJ6_siftUpUsingComparator_7 rfl (inRd rfl)
  (xv_iushr dJ6_siftUpUsingComparator_8
  (xv_istore dJ6_siftUpUsingComparator_9 (Nat.le_of_ble_eq_true rfl)
  (xv_aload_n dJ6_siftUpUsingComparator_11 rfl
  (xv_iload dJ6_siftUpUsingComparator_12
  (xv_aald dJ6_siftUpUsingComparator_14 ⟨(Nat.le_of_ble_eq_true rfl), (Nat.le_of_ble_eq_true rfl)⟩
  (xv_astore dJ6_siftUpUsingComparator_15 (Nat.le_of_ble_eq_true rfl)
  (xv_aload_n dJ6_siftUpUsingComparator_17 rfl
  (xv_aload_n dJ6_siftUpUsingComparator_18 rfl
  (xv_aload dJ6_siftUpUsingComparator_19
  (xv_callF (x := ⟨"java/util/Comparator", "compare", "(Ljava/lang/Object;Ljava/lang/Object;)I"⟩) (J := "java/util/Comparator") dJ6_siftUpUsingComparator_21 cl_10 tg_10 ok_X3_compare ⟨⟨by decide, by decide⟩, by decide +kernel⟩ ⟨Or.inl (lw_at lw_m4 12 rfl), q837, Or.inl q836, q839, q841, q842, q840, q838, q114, q843, Or.inl rfl⟩))))))))))))))))) l st S I h
def tr_J6_siftUpUsingComparator_26 (d : Nat) (Rq : SmQ) (l : SmL) (st : List SmV) (S : SmS) (I : SmI) : Prop :=
  im_zlt l st S I (fun l st S I =>
  im_aload 2 l st S I fun l st S I =>
  im_iload 0 l st S I fun l st S I =>
  im_aload 5 l st S I fun l st S I =>
  im_aast 107 l st S I fun l st S I =>
  im_iload 4 l st S I fun l st S I =>
  im_istore 0 l st S I fun l st S I =>
  SW mi_J6_siftUpUsingComparator 0 d Rq l st S I) (fun l st S I =>
  im_aload 2 l st S I fun l st S I =>
  im_iload 0 l st S I fun l st S I =>
  im_aload 1 l st S I fun l st S I =>
  im_aast 107 l st S I fun l st S I =>
  im_return Rq l st S I)
theorem rv_J6_siftUpUsingComparator_26 {d : Nat} {Rq : SmQ} {l : SmL} {st : List SmV} {S : SmS} {I : SmI} (h : tr_J6_siftUpUsingComparator_26 d Rq l st S I) : SW mi_J6_siftUpUsingComparator 26 d Rq l st S I :=
  (show SmW mi_J6_siftUpUsingComparator 26 d Rq (tr_J6_siftUpUsingComparator_26 d Rq) from
  (xv_zlt dJ6_siftUpUsingComparator_26 rfl
  (xv_aload_n dJ6_siftUpUsingComparator_32 rfl
  (xv_iload_n dJ6_siftUpUsingComparator_33 rfl
  (xv_aload dJ6_siftUpUsingComparator_34
  (xv_aast_107 dJ6_siftUpUsingComparator_36
  (xv_iload dJ6_siftUpUsingComparator_37
  (xv_istore_n dJ6_siftUpUsingComparator_39 rfl (Nat.le_of_ble_eq_true rfl)
  (xv_goto dJ6_siftUpUsingComparator_40 rfl (fun _ _ _ _ h => h))))))))
  (xv_goto dJ6_siftUpUsingComparator_29 rfl (xv_aload_n dJ6_siftUpUsingComparator_43 rfl
  (xv_iload_n dJ6_siftUpUsingComparator_44 rfl
  (xv_aload_n dJ6_siftUpUsingComparator_45 rfl
  (xv_aast_107 dJ6_siftUpUsingComparator_46
  (xv_return dJ6_siftUpUsingComparator_47 rfl)))))))) l st S I h
def tr_J6_size_0 (d : Nat) (Rq : SmQ) (l : SmL) (st : List SmV) (S : SmS) (I : SmI) : Prop :=
  im_aload 0 l st S I fun l st S I =>
  im_getI 17 1 l st S I fun l st S I =>
  im_ireturn Rq l st S I
theorem rv_J6_size_0 {d : Nat} {Rq : SmQ} {l : SmL} {st : List SmV} {S : SmS} {I : SmI} (h : tr_J6_size_0 d Rq l st S I) : SW mi_J6_size 0 d Rq l st S I :=
  (show SmW mi_J6_size 0 d Rq (tr_J6_size_0 d Rq) from
  (xv_aload_n dJ6_size_0 rfl
  (xv_getI (k := 1) dJ6_size_1 cl_17 tg_17 in_J6 (Nat.le_of_ble_eq_true rfl) rfl q1657
  (xv_ireturn dJ6_size_4 rfl)))) l st S I h
def tr_J6_poll_0 (d : Nat) (Rq : SmQ) (l : SmL) (st : List SmV) (S : SmS) (I : SmI) : Prop :=
  im_aload 0 l st S I fun l st S I =>
  im_getR 17 0 l st S I fun l st S I =>
  im_dup l st S I fun l st S I =>
  im_astore 1 l st S I fun l st S I =>
  im_ic 0 l st S I fun l st S I =>
  im_aald 107 l st S I fun l st S I =>
  im_dup l st S I fun l st S I =>
  im_astore 2 l st S I fun l st S I =>
  im_ifnull l st S I (fun l st S I =>
  SW mi_J6_poll 79 d Rq l st S I) (fun l st S I =>
  im_aload 0 l st S I fun l st S I =>
  im_dup l st S I fun l st S I =>
  im_getI 17 3 l st S I fun l st S I =>
  im_ic 1 l st S I fun l st S I =>
  im_iadd l st S I fun l st S I =>
  im_putI 17 3 l st S I fun l st S I =>
  im_aload 1 l st S I fun l st S I =>
  im_aload 0 l st S I fun l st S I =>
  im_dup l st S I fun l st S I =>
  im_getI 17 1 l st S I fun l st S I =>
  im_ic 1 l st S I fun l st S I =>
  im_isub l st S I fun l st S I =>
  im_dup_x1 l st S I fun l st S I =>
  im_putI 17 1 l st S I fun l st S I =>
  im_dup l st S I fun l st S I =>
  im_istore 3 l st S I fun l st S I =>
  im_aald 107 l st S I fun l st S I =>
  im_astore 4 l st S I fun l st S I =>
  im_aload 1 l st S I fun l st S I =>
  im_iload 3 l st S I fun l st S I =>
  im_nul l st S I fun l st S I =>
  im_aast 107 l st S I fun l st S I =>
  im_iload 3 l st S I fun l st S I =>
  im_zle l st S I (fun l st S I =>
  SW mi_J6_poll 79 d Rq l st S I) (fun l st S I =>
  im_aload 0 l st S I fun l st S I =>
  im_getR 17 2 l st S I fun l st S I =>
  im_dup l st S I fun l st S I =>
  im_astore 5 l st S I fun l st S I =>
  im_ifnn l st S I (fun l st S I =>
  im_ic 0 l st S I fun l st S I =>
  im_aload 4 l st S I fun l st S I =>
  im_aload 1 l st S I fun l st S I =>
  im_iload 3 l st S I fun l st S I =>
  im_aload 5 l st S I fun l st S I =>
  im_callS 5 mi_J6_siftDownUsingComparator d (retK mi_J6_poll 76 79 d Rq l) st S I) (fun l st S I =>
  im_ic 0 l st S I fun l st S I =>
  im_aload 4 l st S I fun l st S I =>
  im_aload 1 l st S I fun l st S I =>
  im_iload 3 l st S I fun l st S I =>
  im_callS 4 mi_J6_siftDownComparable d (retK mi_J6_poll 63 66 d Rq l) st S I)))
theorem rv_J6_poll_0 {d : Nat} {Rq : SmQ} {l : SmL} {st : List SmV} {S : SmS} {I : SmI} (h : tr_J6_poll_0 d Rq l st S I) : SW mi_J6_poll 0 d Rq l st S I :=
  (show SmW mi_J6_poll 0 d Rq (tr_J6_poll_0 d Rq) from
  (xv_aload_n dJ6_poll_0 rfl
  (xv_getR (k := 0) dJ6_poll_1 cl_17 tg_17 in_J6 (Nat.le_of_ble_eq_true rfl) rfl q1655
  (xv_dup dJ6_poll_4
  (xv_astore_n dJ6_poll_5 rfl (Nat.le_of_ble_eq_true rfl)
  (xv_iconst dJ6_poll_6 rfl (inRd rfl)
  (xv_aald dJ6_poll_7 ⟨(Nat.le_of_ble_eq_true rfl), (Nat.le_of_ble_eq_true rfl)⟩
  (xv_dup dJ6_poll_8
  (xv_astore_n dJ6_poll_9 rfl (Nat.le_of_ble_eq_true rfl)
  (xv_ifnull dJ6_poll_10 rfl
  (fun _ _ _ _ h => h)
  (xv_aload_n dJ6_poll_13 rfl
  (xv_dup dJ6_poll_14
  (xv_getI (k := 3) dJ6_poll_15 cl_17 tg_17 in_J6 (Nat.le_of_ble_eq_true rfl) rfl q1660
  (xv_iconst dJ6_poll_18 rfl (inRd rfl)
  (xv_iadd dJ6_poll_19
  (xv_putI (k := 3) dJ6_poll_20 cl_17 tg_17 in_J6 tyJ6_ok nmJ6 (Nat.le_of_ble_eq_true rfl) rfl ⟨Or.inl q1660, Or.inl rfl⟩
  (xv_aload_n dJ6_poll_23 rfl
  (xv_aload_n dJ6_poll_24 rfl
  (xv_dup dJ6_poll_25
  (xv_getI (k := 1) dJ6_poll_26 cl_17 tg_17 in_J6 (Nat.le_of_ble_eq_true rfl) rfl q1657
  (xv_iconst dJ6_poll_29 rfl (inRd rfl)
  (xv_isub dJ6_poll_30
  (xv_dup_x1 dJ6_poll_31
  (xv_putI (k := 1) dJ6_poll_32 cl_17 tg_17 in_J6 tyJ6_ok nmJ6 (Nat.le_of_ble_eq_true rfl) rfl ⟨Or.inl q1657, Or.inl rfl⟩
  (xv_dup dJ6_poll_35
  (xv_istore_n dJ6_poll_36 rfl (Nat.le_of_ble_eq_true rfl)
  (xv_aald dJ6_poll_37 ⟨(Nat.le_of_ble_eq_true rfl), (Nat.le_of_ble_eq_true rfl)⟩
  (xv_astore dJ6_poll_38 (Nat.le_of_ble_eq_true rfl)
  (xv_aload_n dJ6_poll_40 rfl
  (xv_iload_n dJ6_poll_41 rfl
  (xv_nul dJ6_poll_42
  (xv_aast_107 dJ6_poll_43
  (xv_iload_n dJ6_poll_44 rfl
  (xv_zle dJ6_poll_45 rfl
  (fun _ _ _ _ h => h)
  (xv_aload_n dJ6_poll_48 rfl
  (xv_getR (k := 2) dJ6_poll_49 cl_17 tg_17 in_J6 (Nat.le_of_ble_eq_true rfl) rfl q1658
  (xv_dup dJ6_poll_52
  (xv_astore dJ6_poll_53 (Nat.le_of_ble_eq_true rfl)
  (xv_ifnn dJ6_poll_55 rfl
  (xv_iconst dJ6_poll_69 rfl (inRd rfl)
  (xv_aload dJ6_poll_70
  (xv_aload_n dJ6_poll_72 rfl
  (xv_iload_n dJ6_poll_73 rfl
  (xv_aload dJ6_poll_74
  (xv_callS dJ6_poll_76 ok_J6_siftDownUsingComparator (lw_S q1030 q1031 q113 q1032)))))))
  (xv_iconst dJ6_poll_58 rfl (inRd rfl)
  (xv_aload dJ6_poll_59
  (xv_aload_n dJ6_poll_61 rfl
  (xv_iload_n dJ6_poll_62 rfl
  (xv_callS dJ6_poll_63 ok_J6_siftDownComparable (lw_S q1027 q1028 q113 q1029))))))))))))))))))))))))))))))))))))))))))))) l st S I h
def tr_J6_poll_66 (d : Nat) (Rq : SmQ) (l : SmL) (st : List SmV) (S : SmS) (I : SmI) : Prop :=
  SW mi_J6_poll 79 d Rq l st S I
theorem rv_J6_poll_66 {d : Nat} {Rq : SmQ} {l : SmL} {st : List SmV} {S : SmS} {I : SmI} (h : tr_J6_poll_66 d Rq l st S I) : SW mi_J6_poll 66 d Rq l st S I :=
  (show SmW mi_J6_poll 66 d Rq (tr_J6_poll_66 d Rq) from
  (xv_goto dJ6_poll_66 rfl (fun _ _ _ _ h => h))) l st S I h
def tr_J6_poll_79 (d : Nat) (Rq : SmQ) (l : SmL) (st : List SmV) (S : SmS) (I : SmI) : Prop :=
  im_aload 2 l st S I fun l st S I =>
  im_areturn Rq l st S I
theorem rv_J6_poll_79 {d : Nat} {Rq : SmQ} {l : SmL} {st : List SmV} {S : SmS} {I : SmI} (h : tr_J6_poll_79 d Rq l st S I) : SW mi_J6_poll 79 d Rq l st S I :=
  (show SmW mi_J6_poll 79 d Rq (tr_J6_poll_79 d Rq) from
  (xv_aload_n dJ6_poll_79 rfl
  (xv_areturn dJ6_poll_80 rfl rfl))) l st S I h
def tr_J6_siftDownUsingComparator_0 (d : Nat) (Rq : SmQ) (l : SmL) (st : List SmV) (S : SmS) (I : SmI) : Prop :=
  im_iload 3 l st S I fun l st S I =>
  im_ic 1 l st S I fun l st S I =>
  im_iushr l st S I fun l st S I =>
  im_istore 5 l st S I fun l st S I =>
  SW mi_J6_siftDownUsingComparator 5 d Rq l st S I
theorem rv_J6_siftDownUsingComparator_0 {d : Nat} {Rq : SmQ} {l : SmL} {st : List SmV} {S : SmS} {I : SmI} (h : tr_J6_siftDownUsingComparator_0 d Rq l st S I) : SW mi_J6_siftDownUsingComparator 0 d Rq l st S I :=
  (show SmW mi_J6_siftDownUsingComparator 0 d Rq (tr_J6_siftDownUsingComparator_0 d Rq) from
  (xv_iload_n dJ6_siftDownUsingComparator_0 rfl
  (xv_iconst dJ6_siftDownUsingComparator_1 rfl (inRd rfl)
  (xv_iushr dJ6_siftDownUsingComparator_2
  (xv_istore dJ6_siftDownUsingComparator_3 (Nat.le_of_ble_eq_true rfl)
  (fun _ _ _ _ h => h)))))) l st S I h
def tr_J6_siftDownUsingComparator_5 (d : Nat) (Rq : SmQ) (l : SmL) (st : List SmV) (S : SmS) (I : SmI) : Prop :=
  im_iload 0 l st S I fun l st S I =>
  im_iload 5 l st S I fun l st S I =>
  im_cge l st S I (fun l st S I =>
  im_aload 2 l st S I fun l st S I =>
  im_iload 0 l st S I fun l st S I =>
  im_aload 1 l st S I fun l st S I =>
  im_aast 107 l st S I fun l st S I =>
  im_return Rq l st S I) (fun l st S I =>
  im_iload 0 l st S I fun l st S I =>
  im_ic 1 l st S I fun l st S I =>
  im_ishl l st S I fun l st S I =>
  im_ic 1 l st S I fun l st S I =>
  im_iadd l st S I fun l st S I =>
  im_istore 6 l st S I fun l st S I =>
  im_aload 2 l st S I fun l st S I =>
  im_iload 6 l st S I fun l st S I =>
  im_aald 107 l st S I fun l st S I =>
  im_astore 7 l st S I fun l st S I =>
  im_iload 6 l st S I fun l st S I =>
  im_ic 1 l st S I fun l st S I =>
  im_iadd l st S I fun l st S I =>
  im_istore 8 l st S I fun l st S I =>
  im_iload 8 l st S I fun l st S I =>
  im_iload 3 l st S I fun l st S I =>
  im_cge l st S I (fun l st S I =>
  im_aload 4 l st S I fun l st S I =>
  im_aload 1 l st S I fun l st S I =>
  im_aload 7 l st S I fun l st S I =>
  im_callV 2 10 mi_X3_compare d (retK mi_J6_siftDownUsingComparator 66 71 d Rq l) st S I) (fun l st S I =>
  im_aload 4 l st S I fun l st S I =>
  im_aload 7 l st S I fun l st S I =>
  im_aload 2 l st S I fun l st S I =>
  im_iload 8 l st S I fun l st S I =>
  im_aald 107 l st S I fun l st S I =>
  im_callV 2 10 mi_X3_compare d (retK mi_J6_siftDownUsingComparator 44 49 d Rq l) st S I))
theorem rv_J6_siftDownUsingComparator_5 {d : Nat} {Rq : SmQ} {l : SmL} {st : List SmV} {S : SmS} {I : SmI} (h : tr_J6_siftDownUsingComparator_5 d Rq l st S I) : SW mi_J6_siftDownUsingComparator 5 d Rq l st S I :=
  (show SmW mi_J6_siftDownUsingComparator 5 d Rq (tr_J6_siftDownUsingComparator_5 d Rq) from
  (xv_iload_n dJ6_siftDownUsingComparator_5 rfl
  (xv_iload dJ6_siftDownUsingComparator_6
  (xv_cge dJ6_siftDownUsingComparator_8 rfl
  (xv_aload_n dJ6_siftDownUsingComparator_88 rfl
  (xv_iload_n dJ6_siftDownUsingComparator_89 rfl
  (xv_aload_n dJ6_siftDownUsingComparator_90 rfl
  (xv_aast_107 dJ6_siftDownUsingComparator_91
  (xv_return dJ6_siftDownUsingComparator_92 rfl)))))
  (xv_iload_n dJ6_siftDownUsingComparator_11 rfl
  (xv_iconst dJ6_siftDownUsingComparator_12 rfl (inRd rfl)
  (xv_ishl dJ6_siftDownUsingComparator_13
  (xv_iconst dJ6_siftDownUsingComparator_14 rfl (inRd rfl)
  (xv_iadd dJ6_siftDownUsingComparator_15
  (xv_istore dJ6_siftDownUsingComparator_16 (Nat.le_of_ble_eq_true rfl)
  (xv_aload_n dJ6_siftDownUsingComparator_18 rfl
  (xv_iload dJ6_siftDownUsingComparator_19
  (xv_aald dJ6_siftDownUsingComparator_21 ⟨(Nat.le_of_ble_eq_true rfl), (Nat.le_of_ble_eq_true rfl)⟩
  (xv_astore dJ6_siftDownUsingComparator_22 (Nat.le_of_ble_eq_true rfl)
  (xv_iload dJ6_siftDownUsingComparator_24
  (xv_iconst dJ6_siftDownUsingComparator_26 rfl (inRd rfl)
  (xv_iadd dJ6_siftDownUsingComparator_27
  (xv_istore dJ6_siftDownUsingComparator_28 (Nat.le_of_ble_eq_true rfl)
  (xv_iload dJ6_siftDownUsingComparator_30
  (xv_iload_n dJ6_siftDownUsingComparator_32 rfl
  (xv_cge dJ6_siftDownUsingComparator_33 rfl
  (xv_aload dJ6_siftDownUsingComparator_61
  (xv_aload_n dJ6_siftDownUsingComparator_63 rfl
  (xv_aload dJ6_siftDownUsingComparator_64
  (xv_callF (x := ⟨"java/util/Comparator", "compare", "(Ljava/lang/Object;Ljava/lang/Object;)I"⟩) (J := "java/util/Comparator") dJ6_siftDownUsingComparator_66 cl_10 tg_10 ok_X3_compare ⟨⟨by decide, by decide⟩, by decide +kernel⟩ ⟨Or.inl (lw_at lw_m4 12 rfl), q837, Or.inl q836, q839, q841, q842, q840, q838, q114, q843, Or.inl rfl⟩))))
  (xv_aload dJ6_siftDownUsingComparator_36
  (xv_aload dJ6_siftDownUsingComparator_38
  (xv_aload_n dJ6_siftDownUsingComparator_40 rfl
  (xv_iload dJ6_siftDownUsingComparator_41
  (xv_aald dJ6_siftDownUsingComparator_43 ⟨(Nat.le_of_ble_eq_true rfl), (Nat.le_of_ble_eq_true rfl)⟩
  (xv_callF (x := ⟨"java/util/Comparator", "compare", "(Ljava/lang/Object;Ljava/lang/Object;)I"⟩) (J := "java/util/Comparator") dJ6_siftDownUsingComparator_44 cl_10 tg_10 ok_X3_compare ⟨⟨by decide, by decide⟩, by decide +kernel⟩ ⟨Or.inl (lw_at lw_m4 12 rfl), q837, Or.inl q836, q839, q841, q842, q840, q838, q114, q843, Or.inl rfl⟩))))))))))))))))))))))))))) l st S I h
def tr_J6_siftDownUsingComparator_49 (d : Nat) (Rq : SmQ) (l : SmL) (st : List SmV) (S : SmS) (I : SmI) : Prop :=
  im_zle l st S I (fun l st S I =>
  im_aload 4 l st S I fun l st S I =>
  im_aload 1 l st S I fun l st S I =>
  im_aload 7 l st S I fun l st S I =>
  im_callV 2 10 mi_X3_compare d (retK mi_J6_siftDownUsingComparator 66 71 d Rq l) st S I) (fun l st S I =>
  im_aload 2 l st S I fun l st S I =>
  im_iload 8 l st S I fun l st S I =>
  im_dup l st S I fun l st S I =>
  im_istore 6 l st S I fun l st S I =>
  im_aald 107 l st S I fun l st S I =>
  im_astore 7 l st S I fun l st S I =>
  im_aload 4 l st S I fun l st S I =>
  im_aload 1 l st S I fun l st S I =>
  im_aload 7 l st S I fun l st S I =>
  im_callV 2 10 mi_X3_compare d (retK mi_J6_siftDownUsingComparator 66 71 d Rq l) st S I)
theorem rv_J6_siftDownUsingComparator_49 {d : Nat} {Rq : SmQ} {l : SmL} {st : List SmV} {S : SmS} {I : SmI} (h : tr_J6_siftDownUsingComparator_49 d Rq l st S I) : SW mi_J6_siftDownUsingComparator 49 d Rq l st S I :=
  (show SmW mi_J6_siftDownUsingComparator 49 d Rq (tr_J6_siftDownUsingComparator_49 d Rq) from
  (xv_zle dJ6_siftDownUsingComparator_49 rfl
  (xv_aload dJ6_siftDownUsingComparator_61
  (xv_aload_n dJ6_siftDownUsingComparator_63 rfl
  (xv_aload dJ6_siftDownUsingComparator_64
  (xv_callF (x := ⟨"java/util/Comparator", "compare", "(Ljava/lang/Object;Ljava/lang/Object;)I"⟩) (J := "java/util/Comparator") dJ6_siftDownUsingComparator_66 cl_10 tg_10 ok_X3_compare ⟨⟨by decide, by decide⟩, by decide +kernel⟩ ⟨Or.inl (lw_at lw_m4 12 rfl), q837, Or.inl q836, q839, q841, q842, q840, q838, q114, q843, Or.inl rfl⟩))))
  (xv_aload_n dJ6_siftDownUsingComparator_52 rfl
  (xv_iload dJ6_siftDownUsingComparator_53
  (xv_dup dJ6_siftDownUsingComparator_55
  (xv_istore dJ6_siftDownUsingComparator_56 (Nat.le_of_ble_eq_true rfl)
  (xv_aald dJ6_siftDownUsingComparator_58 ⟨(Nat.le_of_ble_eq_true rfl), (Nat.le_of_ble_eq_true rfl)⟩
  (xv_astore dJ6_siftDownUsingComparator_59 (Nat.le_of_ble_eq_true rfl)
  (xv_aload dJ6_siftDownUsingComparator_61
  (xv_aload_n dJ6_siftDownUsingComparator_63 rfl
  (xv_aload dJ6_siftDownUsingComparator_64
  (xv_callF (x := ⟨"java/util/Comparator", "compare", "(Ljava/lang/Object;Ljava/lang/Object;)I"⟩) (J := "java/util/Comparator") dJ6_siftDownUsingComparator_66 cl_10 tg_10 ok_X3_compare ⟨⟨by decide, by decide⟩, by decide +kernel⟩ ⟨Or.inl (lw_at lw_m4 12 rfl), q837, Or.inl q836, q839, q841, q842, q840, q838, q114, q843, Or.inl rfl⟩)))))))))))) l st S I h
def tr_J6_siftDownUsingComparator_71 (d : Nat) (Rq : SmQ) (l : SmL) (st : List SmV) (S : SmS) (I : SmI) : Prop :=
  im_zgt l st S I (fun l st S I =>
  im_aload 2 l st S I fun l st S I =>
  im_iload 0 l st S I fun l st S I =>
  im_aload 7 l st S I fun l st S I =>
  im_aast 107 l st S I fun l st S I =>
  im_iload 6 l st S I fun l st S I =>
  im_istore 0 l st S I fun l st S I =>
  SW mi_J6_siftDownUsingComparator 5 d Rq l st S I) (fun l st S I =>
  im_aload 2 l st S I fun l st S I =>
  im_iload 0 l st S I fun l st S I =>
  im_aload 1 l st S I fun l st S I =>
  im_aast 107 l st S I fun l st S I =>
  im_return Rq l st S I)
theorem rv_J6_siftDownUsingComparator_71 {d : Nat} {Rq : SmQ} {l : SmL} {st : List SmV} {S : SmS} {I : SmI} (h : tr_J6_siftDownUsingComparator_71 d Rq l st S I) : SW mi_J6_siftDownUsingComparator 71 d Rq l st S I :=
  (show SmW mi_J6_siftDownUsingComparator 71 d Rq (tr_J6_siftDownUsingComparator_71 d Rq) from
  (xv_zgt dJ6_siftDownUsingComparator_71 rfl
  (xv_aload_n dJ6_siftDownUsingComparator_77 rfl
  (xv_iload_n dJ6_siftDownUsingComparator_78 rfl
  (xv_aload dJ6_siftDownUsingComparator_79
  (xv_aast_107 dJ6_siftDownUsingComparator_81
  (xv_iload dJ6_siftDownUsingComparator_82
  (xv_istore_n dJ6_siftDownUsingComparator_84 rfl (Nat.le_of_ble_eq_true rfl)
  (xv_goto dJ6_siftDownUsingComparator_85 rfl (fun _ _ _ _ h => h))))))))
  (xv_goto dJ6_siftDownUsingComparator_74 rfl (xv_aload_n dJ6_siftDownUsingComparator_88 rfl
  (xv_iload_n dJ6_siftDownUsingComparator_89 rfl
  (xv_aload_n dJ6_siftDownUsingComparator_90 rfl
  (xv_aast_107 dJ6_siftDownUsingComparator_91
  (xv_return dJ6_siftDownUsingComparator_92 rfl)))))))) l st S I h
def tr_X9_init_0 (d : Nat) (Rq : SmQ) (l : SmL) (st : List SmV) (S : SmS) (I : SmI) : Prop :=
  im_aload 0 l st S I fun l st S I =>
  im_objinit l st S I fun l st S I =>
  im_aload 0 l st S I fun l st S I =>
  im_iload 1 l st S I fun l st S I =>
  im_putI 9 0 l st S I fun l st S I =>
  im_aload 0 l st S I fun l st S I =>
  im_iload 2 l st S I fun l st S I =>
  im_putI 9 1 l st S I fun l st S I =>
  im_return Rq l st S I
theorem rv_X9_init_0 {d : Nat} {Rq : SmQ} {l : SmL} {st : List SmV} {S : SmS} {I : SmI} (h : tr_X9_init_0 d Rq l st S I) : SW mi_X9_init 0 d Rq l st S I :=
  (show SmW mi_X9_init 0 d Rq (tr_X9_init_0 d Rq) from
  (xv_aload_n dX9_init_0 rfl
  (xv_objinit dX9_init_1 q731 q177 q178
  (xv_aload_n dX9_init_4 rfl
  (xv_iload_n dX9_init_5 rfl
  (xv_putI (k := 0) dX9_init_6 cl_9 tg_9 in_X9 tyX9_ok nmX9 (Nat.le_of_ble_eq_true rfl) rfl ⟨Or.inl q732, Or.inr ⟨rfl, rfl, rfl⟩⟩
  (xv_aload_n dX9_init_9 rfl
  (xv_iload_n dX9_init_10 rfl
  (xv_putI (k := 1) dX9_init_11 cl_9 tg_9 in_X9 tyX9_ok nmX9 (Nat.le_of_ble_eq_true rfl) rfl ⟨Or.inl q735, Or.inr ⟨rfl, rfl, rfl⟩⟩
  (xv_return dX9_init_14 rfl)))))))))) l st S I h
def tr_X3_compare_0 (d : Nat) (Rq : SmQ) (l : SmL) (st : List SmV) (S : SmS) (I : SmI) : Prop :=
  im_aload 0 l st S I fun l st S I =>
  im_aload 1 l st S I fun l st S I =>
  im_castO [9] l st S I fun l st S I =>
  im_aload 2 l st S I fun l st S I =>
  im_castO [9] l st S I fun l st S I =>
  im_callV 2 10 mi_X3_compare_2 d (retK mi_X3_compare 9 12 d Rq l) st S I
theorem rv_X3_compare_0 {d : Nat} {Rq : SmQ} {l : SmL} {st : List SmV} {S : SmS} {I : SmI} (h : tr_X3_compare_0 d Rq l st S I) : SW mi_X3_compare 0 d Rq l st S I :=
  (show SmW mi_X3_compare 0 d Rq (tr_X3_compare_0 d Rq) from
  (xv_aload_n dX3_compare_0 rfl
  (xv_aload_n dX3_compare_1 rfl
  (xv_castO dX3_compare_2 q844 (fun t h => by cases List.mem_singleton.mp h; exact ⟨_, _, _, ⟨(Nat.le_of_ble_eq_true rfl), (Nat.le_of_ble_eq_true rfl)⟩, cl_9, Or.inl rfl⟩)
  (xv_aload_n dX3_compare_5 rfl
  (xv_castO dX3_compare_6 q844 (fun t h => by cases List.mem_singleton.mp h; exact ⟨_, _, _, ⟨(Nat.le_of_ble_eq_true rfl), (Nat.le_of_ble_eq_true rfl)⟩, cl_9, Or.inl rfl⟩)
  (xv_callV dX3_compare_9 cl_10 tg_10 ok_X3_compare_2 rfl (lw_V q845 q846 q847 q114 q848)))))))) l st S I h
def tr_X3_compare_12 (d : Nat) (Rq : SmQ) (l : SmL) (st : List SmV) (S : SmS) (I : SmI) : Prop :=
  im_ireturn Rq l st S I
theorem rv_X3_compare_12 {d : Nat} {Rq : SmQ} {l : SmL} {st : List SmV} {S : SmS} {I : SmI} (h : tr_X3_compare_12 d Rq l st S I) : SW mi_X3_compare 12 d Rq l st S I :=
  (show SmW mi_X3_compare 12 d Rq (tr_X3_compare_12 d Rq) from
  (xv_ireturn dX3_compare_12 rfl)) l st S I h
def tr_X3_compare_2_0 (d : Nat) (Rq : SmQ) (l : SmL) (st : List SmV) (S : SmS) (I : SmI) : Prop :=
  im_aload 1 l st S I fun l st S I =>
  im_getI 9 1 l st S I fun l st S I =>
  im_aload 2 l st S I fun l st S I =>
  im_getI 9 1 l st S I fun l st S I =>
  im_ceq l st S I (fun l st S I =>
  im_aload 1 l st S I fun l st S I =>
  im_getI 9 0 l st S I fun l st S I =>
  im_aload 2 l st S I fun l st S I =>
  im_getI 9 0 l st S I fun l st S I =>
  im_callS 2 mi_J18_compare d (retK mi_X3_compare_2 33 36 d Rq l) st S I) (fun l st S I =>
  im_aload 1 l st S I fun l st S I =>
  im_getI 9 1 l st S I fun l st S I =>
  im_aload 2 l st S I fun l st S I =>
  im_getI 9 1 l st S I fun l st S I =>
  im_callS 2 mi_J18_compare d (retK mi_X3_compare_2 19 22 d Rq l) st S I)
theorem rv_X3_compare_2_0 {d : Nat} {Rq : SmQ} {l : SmL} {st : List SmV} {S : SmS} {I : SmI} (h : tr_X3_compare_2_0 d Rq l st S I) : SW mi_X3_compare_2 0 d Rq l st S I :=
  (show SmW mi_X3_compare_2 0 d Rq (tr_X3_compare_2_0 d Rq) from
  (xv_aload_n dX3_compare_2_0 rfl
  (xv_getIN (k := 1) dX3_compare_2_1 cl_9 tg_9 in_X9 (Nat.le_of_ble_eq_true rfl) rfl q736
  (xv_aload_n dX3_compare_2_4 rfl
  (xv_getIN (k := 1) dX3_compare_2_5 cl_9 tg_9 in_X9 (Nat.le_of_ble_eq_true rfl) rfl q736
  (xv_ceq dX3_compare_2_8 rfl
  (xv_aload_n dX3_compare_2_25 rfl
  (xv_getIN (k := 0) dX3_compare_2_26 cl_9 tg_9 in_X9 (Nat.le_of_ble_eq_true rfl) rfl q733
  (xv_aload_n dX3_compare_2_29 rfl
  (xv_getIN (k := 0) dX3_compare_2_30 cl_9 tg_9 in_X9 (Nat.le_of_ble_eq_true rfl) rfl q733
  (xv_callS dX3_compare_2_33 ok_J18_compare (lw_S q849 q850 q134 q851))))))
  (xv_aload_n dX3_compare_2_11 rfl
  (xv_getIN (k := 1) dX3_compare_2_12 cl_9 tg_9 in_X9 (Nat.le_of_ble_eq_true rfl) rfl q736
  (xv_aload_n dX3_compare_2_15 rfl
  (xv_getIN (k := 1) dX3_compare_2_16 cl_9 tg_9 in_X9 (Nat.le_of_ble_eq_true rfl) rfl q736
  (xv_callS dX3_compare_2_19 ok_J18_compare (lw_S q849 q850 q134 q851)))))))))))) l st S I h
def tr_X3_compare_2_22 (d : Nat) (Rq : SmQ) (l : SmL) (st : List SmV) (S : SmS) (I : SmI) : Prop :=
  SW mi_X3_compare_2 36 d Rq l st S I
theorem rv_X3_compare_2_22 {d : Nat} {Rq : SmQ} {l : SmL} {st : List SmV} {S : SmS} {I : SmI} (h : tr_X3_compare_2_22 d Rq l st S I) : SW mi_X3_compare_2 22 d Rq l st S I :=
  (show SmW mi_X3_compare_2 22 d Rq (tr_X3_compare_2_22 d Rq) from
  (xv_goto dX3_compare_2_22 rfl (fun _ _ _ _ h => h))) l st S I h
def tr_X3_compare_2_36 (d : Nat) (Rq : SmQ) (l : SmL) (st : List SmV) (S : SmS) (I : SmI) : Prop :=
  im_ireturn Rq l st S I
theorem rv_X3_compare_2_36 {d : Nat} {Rq : SmQ} {l : SmL} {st : List SmV} {S : SmS} {I : SmI} (h : tr_X3_compare_2_36 d Rq l st S I) : SW mi_X3_compare_2 36 d Rq l st S I :=
  (show SmW mi_X3_compare_2 36 d Rq (tr_X3_compare_2_36 d Rq) from
  (xv_ireturn dX3_compare_2_36 rfl)) l st S I h
def tr_X3_init_0 (d : Nat) (Rq : SmQ) (l : SmL) (st : List SmV) (S : SmS) (I : SmI) : Prop :=
  im_aload 0 l st S I fun l st S I =>
  im_objinit l st S I fun l st S I =>
  im_return Rq l st S I
theorem rv_X3_init_0 {d : Nat} {Rq : SmQ} {l : SmL} {st : List SmV} {S : SmS} {I : SmI} (h : tr_X3_init_0 d Rq l st S I) : SW mi_X3_init 0 d Rq l st S I :=
  (show SmW mi_X3_init 0 d Rq (tr_X3_init_0 d Rq) from
  (xv_aload_n dX3_init_0 rfl
  (xv_objinit dX3_init_1 q1644 q177 q178
  (xv_return dX3_init_4 rfl)))) l st S I h
