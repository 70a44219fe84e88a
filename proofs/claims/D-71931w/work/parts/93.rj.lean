/-! regions of methods, printed by gen/regions.py -/
set_option maxRecDepth 100000
/- J4_setColor: cut at [0] -/
abbrev mi_J4_setColor : SmM := (yJ4_setColor, cJ4_setColor, 2, (none : Option FieldType), [])
theorem ok_J4_setColor : callOk mi_J4_setColor 2 := ⟨rfl, rfl, Nat.le_of_ble_eq_true rfl, by decide, by decide, by decide +kernel⟩
theorem ent_J4_setColor (x0 : Option Nat) (x1 : Int) : entL (mL mi_J4_setColor) [vR x0, vI x1] = [some (vR x0), some (vI x1)] := rfl
/- J4_rotateLeft: cut at [0, 32] -/
abbrev mi_J4_rotateLeft : SmM := (yJ4_rotateLeft, cJ4_rotateLeft, 3, (none : Option FieldType), [])
theorem ok_J4_rotateLeft : callOk mi_J4_rotateLeft 1 := ⟨rfl, rfl, Nat.le_of_ble_eq_true rfl, by decide, by decide, by decide +kernel⟩
theorem ent_J4_rotateLeft (x : Option Nat) (x0 : Option Nat) : entL (mL mi_J4_rotateLeft) [vR x, vR x0] = [some (vR x), some (vR x0), none] := rfl
/- J4_rotateRight: cut at [0, 32] -/
abbrev mi_J4_rotateRight : SmM := (yJ4_rotateRight, cJ4_rotateRight, 3, (none : Option FieldType), [])
theorem ok_J4_rotateRight : callOk mi_J4_rotateRight 1 := ⟨rfl, rfl, Nat.le_of_ble_eq_true rfl, by decide, by decide, by decide +kernel⟩
theorem ent_J4_rotateRight (x : Option Nat) (x0 : Option Nat) : entL (mL mi_J4_rotateRight) [vR x, vR x0] = [some (vR x), some (vR x0), none] := rfl
/- J4_fixAfterInsertion: cut at [0, 5, 27, 44, 62, 70, 75, 86, 97, 118, 126, 137, 148, 151, 169, 177, 182, 193, 204, 225, 233, 244, 255, 258] -/
abbrev mi_J4_fixAfterInsertion : SmM := (yJ4_fixAfterInsertion, cJ4_fixAfterInsertion, 3, (none : Option FieldType), [])
theorem ok_J4_fixAfterInsertion : callOk mi_J4_fixAfterInsertion 1 := ⟨rfl, rfl, Nat.le_of_ble_eq_true rfl, by decide, by decide, by decide +kernel⟩
theorem ent_J4_fixAfterInsertion (x : Option Nat) (x0 : Option Nat) : entL (mL mi_J4_fixAfterInsertion) [vR x, vR x0] = [some (vR x), some (vR x0), none] := rfl
/- J4_addEntry: cut at [0, 10, 38] -/
abbrev mi_J4_addEntry : SmM := (yJ4_addEntry, cJ4_addEntry, 6, (none : Option FieldType), [])
theorem ok_J4_addEntry : callOk mi_J4_addEntry 4 := ⟨rfl, rfl, Nat.le_of_ble_eq_true rfl, by decide, by decide, by decide +kernel⟩
theorem ent_J4_addEntry (x : Option Nat) (x0 : Option Nat) (x1 : Option Nat) (x2 : Option Nat) (x3 : Int) : entL (mL mi_J4_addEntry) [vR x, vR x0, vR x1, vR x2, vI x3] = [some (vR x), some (vR x0), some (vR x1), some (vR x2), some (vI x3), none] := rfl
/- J21_init: cut at [0] -/
abbrev mi_J21_init : SmM := (yJ21_init, cJ21_init, 4, (none : Option FieldType), [])
theorem ok_J21_init : callOk mi_J21_init 3 := ⟨rfl, rfl, Nat.le_of_ble_eq_true rfl, by decide, by decide, by decide +kernel⟩
theorem ent_J21_init (x : Option Nat) (x0 : Option Nat) (x1 : Option Nat) (x2 : Option Nat) : entL (mL mi_J21_init) [vR x, vR x0, vR x1, vR x2] = [some (vR x), some (vR x0), some (vR x1), some (vR x2)] := rfl
/- J4_addEntryToEmptyMap: cut at [0, 6, 18] -/
abbrev mi_J4_addEntryToEmptyMap : SmM := (yJ4_addEntryToEmptyMap, cJ4_addEntryToEmptyMap, 3, (none : Option FieldType), [])
theorem ok_J4_addEntryToEmptyMap : callOk mi_J4_addEntryToEmptyMap 2 := ⟨rfl, rfl, Nat.le_of_ble_eq_true rfl, by decide, by decide, by decide +kernel⟩
theorem ent_J4_addEntryToEmptyMap (x : Option Nat) (x0 : Option Nat) (x1 : Option Nat) : entL (mL mi_J4_addEntryToEmptyMap) [vR x, vR x0, vR x1] = [some (vR x), some (vR x0), some (vR x1)] := rfl
/- J4_compare: cut at [0, 17, 31] -/
abbrev mi_J4_compare : SmM := (yJ4_compare, cJ4_compare, 3, (some FieldType.int : Option FieldType), [])
theorem ok_J4_compare : callOk mi_J4_compare 2 := ⟨rfl, rfl, Nat.le_of_ble_eq_true rfl, by decide, by decide, by decide +kernel⟩
theorem ent_J4_compare (x : Option Nat) (x0 : Option Nat) (x1 : Option Nat) : entL (mL mi_J4_compare) [vR x, vR x0, vR x1] = [some (vR x), some (vR x0), some (vR x1)] := rfl
/- X10_compareTo: cut at [0, 8] -/
abbrev mi_X10_compareTo : SmM := (yX10_compareTo, cX10_compareTo, 2, (some FieldType.int : Option FieldType), [])
theorem ok_X10_compareTo : callOk mi_X10_compareTo 1 := ⟨rfl, rfl, Nat.le_of_ble_eq_true rfl, by decide, by decide, by decide +kernel⟩
theorem ent_X10_compareTo (x : Option Nat) (x0 : Option Nat) : entL (mL mi_X10_compareTo) [vR x, vR x0] = [some (vR x), some (vR x0)] := rfl
/- X3_compare: cut at [0, 12] -/
abbrev mi_X3_compare : SmM := (yX3_compare, cX3_compare, 3, (some FieldType.int : Option FieldType), [])
theorem ok_X3_compare : callOk mi_X3_compare 2 := ⟨rfl, rfl, Nat.le_of_ble_eq_true rfl, by decide, by decide, by decide +kernel⟩
theorem ent_X3_compare (x : Option Nat) (x0 : Option Nat) (x1 : Option Nat) : entL (mL mi_X3_compare) [vR x, vR x0, vR x1] = [some (vR x), some (vR x0), some (vR x1)] := rfl
/- J4_put: cut at [0, 7] -/
abbrev mi_J4_put : SmM := (yJ4_put, cJ4_put, 3, (some (FieldType.object "java/lang/Object") : Option FieldType), [])
theorem ok_J4_put : callOk mi_J4_put 2 := ⟨rfl, rfl, Nat.le_of_ble_eq_true rfl, by decide, by decide, by decide +kernel⟩
theorem ent_J4_put (x : Option Nat) (x0 : Option Nat) (x1 : Option Nat) : entL (mL mi_J4_put) [vR x, vR x0, vR x1] = [some (vR x), some (vR x0), some (vR x1)] := rfl
/- J4_put_2: cut at [0, 17, 30, 47, 116, 123, 139, 201, 219] -/
abbrev mi_J4_put_2 : SmM := (yJ4_put_2, cJ4_put_2, 10, (some (FieldType.object "java/lang/Object") : Option FieldType), [])
theorem ok_J4_put_2 : callOk mi_J4_put_2 3 := ⟨rfl, rfl, Nat.le_of_ble_eq_true rfl, by decide, by decide, by decide +kernel⟩
theorem ent_J4_put_2 (x : Option Nat) (x0 : Option Nat) (x1 : Option Nat) (x2 : Int) : entL (mL mi_J4_put_2) [vR x, vR x0, vR x1, vI x2] = [some (vR x), some (vR x0), some (vR x1), some (vI x2), none, none, none, none, none, none] := rfl
/- J22_requireNonNull: cut at [0, 11] -/
abbrev mi_J22_requireNonNull : SmM := (yJ22_requireNonNull, cJ22_requireNonNull, 1, (some (FieldType.object "java/lang/Object") : Option FieldType), [])
theorem ok_J22_requireNonNull : callOk mi_J22_requireNonNull 1 := ⟨rfl, rfl, Nat.le_of_ble_eq_true rfl, by decide, by decide, by decide +kernel⟩
theorem ent_J22_requireNonNull (x0 : Option Nat) : entL (mL mi_J22_requireNonNull) [vR x0] = [some (vR x0)] := rfl
/- J4_successor: cut at [0, 18, 42] -/
abbrev mi_J4_successor : SmM := (yJ4_successor, cJ4_successor, 3, (some (FieldType.object "java/util/TreeMap$Entry") : Option FieldType), [])
theorem ok_J4_successor : callOk mi_J4_successor 1 := ⟨rfl, rfl, Nat.le_of_ble_eq_true rfl, by decide, by decide, by decide +kernel⟩
theorem ent_J4_successor (x0 : Option Nat) : entL (mL mi_J4_successor) [vR x0] = [some (vR x0), none, none] := rfl
/- J4_getFirstEntry: cut at [0, 9] -/
abbrev mi_J4_getFirstEntry : SmM := (yJ4_getFirstEntry, cJ4_getFirstEntry, 2, (some (FieldType.object "java/util/TreeMap$Entry") : Option FieldType), [])
theorem ok_J4_getFirstEntry : callOk mi_J4_getFirstEntry 0 := ⟨rfl, rfl, Nat.le_of_ble_eq_true rfl, by decide, by decide, by decide +kernel⟩
theorem ent_J4_getFirstEntry (x : Option Nat) : entL (mL mi_J4_getFirstEntry) [vR x] = [some (vR x), none] := rfl
/- J4_size: cut at [0] -/
abbrev mi_J4_size : SmM := (yJ4_size, cJ4_size, 1, (some FieldType.int : Option FieldType), [])
theorem ok_J4_size : callOk mi_J4_size 0 := ⟨rfl, rfl, Nat.le_of_ble_eq_true rfl, by decide, by decide, by decide +kernel⟩
theorem ent_J4_size (x : Option Nat) : entL (mL mi_J4_size) [vR x] = [some (vR x)] := rfl
/- J4_clear: cut at [0] -/
abbrev mi_J4_clear : SmM := (yJ4_clear, cJ4_clear, 1, (none : Option FieldType), [])
theorem ok_J4_clear : callOk mi_J4_clear 0 := ⟨rfl, rfl, Nat.le_of_ble_eq_true rfl, by decide, by decide, by decide +kernel⟩
theorem ent_J4_clear (x : Option Nat) : entL (mL mi_J4_clear) [vR x] = [some (vR x)] := rfl
/- J4_comparator: cut at [0] -/
abbrev mi_J4_comparator : SmM := (yJ4_comparator, cJ4_comparator, 1, (some (FieldType.object "java/util/Comparator") : Option FieldType), [])
theorem ok_J4_comparator : callOk mi_J4_comparator 0 := ⟨rfl, rfl, Nat.le_of_ble_eq_true rfl, by decide, by decide, by decide +kernel⟩
theorem ent_J4_comparator (x : Option Nat) : entL (mL mi_J4_comparator) [vR x] = [some (vR x)] := rfl
/- J4_init: cut at [0, 4] -/
abbrev mi_J4_init : SmM := (yJ4_init, cJ4_init, 1, (none : Option FieldType), [])
theorem ok_J4_init : callOk mi_J4_init 0 := ⟨rfl, rfl, Nat.le_of_ble_eq_true rfl, by decide, by decide, by decide +kernel⟩
theorem ent_J4_init (x : Option Nat) : entL (mL mi_J4_init) [vR x] = [some (vR x)] := rfl
/- J3_init: cut at [0] -/
abbrev mi_J3_init : SmM := (yJ3_init, cJ3_init, 1, (none : Option FieldType), [])
theorem ok_J3_init : callOk mi_J3_init 0 := ⟨rfl, rfl, Nat.le_of_ble_eq_true rfl, by decide, by decide, by decide +kernel⟩
theorem ent_J3_init (x : Option Nat) : entL (mL mi_J3_init) [vR x] = [some (vR x)] := rfl
/- J21_getKey: cut at [0] -/
abbrev mi_J21_getKey : SmM := (yJ21_getKey, cJ21_getKey, 1, (some (FieldType.object "java/lang/Object") : Option FieldType), [])
theorem ok_J21_getKey : callOk mi_J21_getKey 0 := ⟨rfl, rfl, Nat.le_of_ble_eq_true rfl, by decide, by decide, by decide +kernel⟩
theorem ent_J21_getKey (x : Option Nat) : entL (mL mi_J21_getKey) [vR x] = [some (vR x)] := rfl
/- X10_init: cut at [0] -/
abbrev mi_X10_init : SmM := (yX10_init, cX10_init, 4, (none : Option FieldType), [])
theorem ok_X10_init : callOk mi_X10_init 3 := ⟨rfl, rfl, Nat.le_of_ble_eq_true rfl, by decide, by decide, by decide +kernel⟩
theorem ent_X10_init (x : Option Nat) (x0 : Int) (x1 : Int) (x2 : Int) : entL (mL mi_X10_init) [vR x, vI x0, vI x1, vI x2] = [some (vR x), some (vI x0), some (vI x1), some (vI x2)] := rfl
/- X10_compareTo_2: cut at [0, 22, 36] -/
abbrev mi_X10_compareTo_2 : SmM := (yX10_compareTo_2, cX10_compareTo_2, 2, (some FieldType.int : Option FieldType), [])
theorem ok_X10_compareTo_2 : callOk mi_X10_compareTo_2 1 := ⟨rfl, rfl, Nat.le_of_ble_eq_true rfl, by decide, by decide, by decide +kernel⟩
theorem ent_X10_compareTo_2 (x : Option Nat) (x0 : Option Nat) : entL (mL mi_X10_compareTo_2) [vR x, vR x0] = [some (vR x), some (vR x0)] := rfl
/- J18_compare: cut at [0] -/
abbrev mi_J18_compare : SmM := (yJ18_compare, cJ18_compare, 2, (some FieldType.int : Option FieldType), [])
theorem ok_J18_compare : callOk mi_J18_compare 2 := ⟨rfl, rfl, Nat.le_of_ble_eq_true rfl, by decide, by decide, by decide +kernel⟩
theorem ent_J18_compare (x0 : Int) (x1 : Int) : entL (mL mi_J18_compare) [vI x0, vI x1] = [some (vI x0), some (vI x1)] := rfl
def tr_J4_setColor_0 (d : Nat) (Rq : SmQ) (l : SmL) (st : List SmV) (S : SmS) (I : SmI) : Prop :=
  im_aload 0 l st S I fun l st S I =>
  im_ifnull l st S I (fun l st S I =>
  im_return Rq l st S I) (fun l st S I =>
  im_aload 0 l st S I fun l st S I =>
  im_iload 1 l st S I fun l st S I =>
  im_putZ 14 5 l st S I fun l st S I =>
  im_return Rq l st S I)
theorem rv_J4_setColor_0 {d : Nat} {Rq : SmQ} {l : SmL} {st : List SmV} {S : SmS} {I : SmI} (h : tr_J4_setColor_0 d Rq l st S I) : SW mi_J4_setColor 0 d Rq l st S I :=
  (show SmW mi_J4_setColor 0 d Rq (tr_J4_setColor_0 d Rq) from
  (xv_aload_n dJ4_setColor_0 rfl
  (xv_ifnull dJ4_setColor_1 rfl
  (xv_return dJ4_setColor_9 rfl)
  (xv_aload_n dJ4_setColor_4 rfl
  (xv_iload_n dJ4_setColor_5 rfl
  (xv_putZ (k := 5) dJ4_setColor_6 cl_14 tg_14 in_J21 tyJ21_ok nmJ21 (Nat.le_of_ble_eq_true rfl) rfl ⟨Or.inl q1114, Or.inl rfl⟩
  (xv_return dJ4_setColor_9 rfl))))))) l st S I h
def tr_J4_rotateLeft_0 (d : Nat) (Rq : SmQ) (l : SmL) (st : List SmV) (S : SmS) (I : SmI) : Prop :=
  im_aload 1 l st S I fun l st S I =>
  im_ifnull l st S I (fun l st S I =>
  im_return Rq l st S I) (fun l st S I =>
  im_aload 1 l st S I fun l st S I =>
  im_getR 14 3 l st S I fun l st S I =>
  im_astore 2 l st S I fun l st S I =>
  im_aload 1 l st S I fun l st S I =>
  im_aload 2 l st S I fun l st S I =>
  im_getR 14 2 l st S I fun l st S I =>
  im_putR 14 3 l st S I fun l st S I =>
  im_aload 2 l st S I fun l st S I =>
  im_getR 14 2 l st S I fun l st S I =>
  im_ifnull l st S I (fun l st S I =>
  SW mi_J4_rotateLeft 32 d Rq l st S I) (fun l st S I =>
  im_aload 2 l st S I fun l st S I =>
  im_getR 14 2 l st S I fun l st S I =>
  im_aload 1 l st S I fun l st S I =>
  im_putR 14 4 l st S I fun l st S I =>
  SW mi_J4_rotateLeft 32 d Rq l st S I))
theorem rv_J4_rotateLeft_0 {d : Nat} {Rq : SmQ} {l : SmL} {st : List SmV} {S : SmS} {I : SmI} (h : tr_J4_rotateLeft_0 d Rq l st S I) : SW mi_J4_rotateLeft 0 d Rq l st S I :=
  (show SmW mi_J4_rotateLeft 0 d Rq (tr_J4_rotateLeft_0 d Rq) from
  (xv_aload_n dJ4_rotateLeft_0 rfl
  (xv_ifnull dJ4_rotateLeft_1 rfl
  (xv_return dJ4_rotateLeft_95 rfl)
  (xv_aload_n dJ4_rotateLeft_4 rfl
  (xv_getR (k := 3) dJ4_rotateLeft_5 cl_14 tg_14 in_J21 (Nat.le_of_ble_eq_true rfl) rfl q1110
  (xv_astore_n dJ4_rotateLeft_8 rfl (Nat.le_of_ble_eq_true rfl)
  (xv_aload_n dJ4_rotateLeft_9 rfl
  (xv_aload_n dJ4_rotateLeft_10 rfl
  (xv_getR (k := 2) dJ4_rotateLeft_11 cl_14 tg_14 in_J21 (Nat.le_of_ble_eq_true rfl) rfl q1109
  (xv_putR (k := 3) dJ4_rotateLeft_14 cl_14 tg_14 in_J21 tyJ21_ok nmJ21 (Nat.le_of_ble_eq_true rfl) rfl ⟨Or.inl q1110, Or.inl rfl⟩
  (xv_aload_n dJ4_rotateLeft_17 rfl
  (xv_getR (k := 2) dJ4_rotateLeft_18 cl_14 tg_14 in_J21 (Nat.le_of_ble_eq_true rfl) rfl q1109
  (xv_ifnull dJ4_rotateLeft_21 rfl
  (fun _ _ _ _ h => h)
  (xv_aload_n dJ4_rotateLeft_24 rfl
  (xv_getR (k := 2) dJ4_rotateLeft_25 cl_14 tg_14 in_J21 (Nat.le_of_ble_eq_true rfl) rfl q1109
  (xv_aload_n dJ4_rotateLeft_28 rfl
  (xv_putR (k := 4) dJ4_rotateLeft_29 cl_14 tg_14 in_J21 tyJ21_ok nmJ21 (Nat.le_of_ble_eq_true rfl) rfl ⟨Or.inl q1112, Or.inl rfl⟩
  (fun _ _ _ _ h => h)))))))))))))))))) l st S I h
def tr_J4_rotateLeft_32 (d : Nat) (Rq : SmQ) (l : SmL) (st : List SmV) (S : SmS) (I : SmI) : Prop :=
  im_aload 2 l st S I fun l st S I =>
  im_aload 1 l st S I fun l st S I =>
  im_getR 14 4 l st S I fun l st S I =>
  im_putR 14 4 l st S I fun l st S I =>
  im_aload 1 l st S I fun l st S I =>
  im_getR 14 4 l st S I fun l st S I =>
  im_ifnn l st S I (fun l st S I =>
  im_aload 1 l st S I fun l st S I =>
  im_getR 14 4 l st S I fun l st S I =>
  im_getR 14 2 l st S I fun l st S I =>
  im_aload 1 l st S I fun l st S I =>
  im_acmpne l st S I (fun l st S I =>
  im_aload 1 l st S I fun l st S I =>
  im_getR 14 4 l st S I fun l st S I =>
  im_aload 2 l st S I fun l st S I =>
  im_putR 14 3 l st S I fun l st S I =>
  im_aload 2 l st S I fun l st S I =>
  im_aload 1 l st S I fun l st S I =>
  im_putR 14 2 l st S I fun l st S I =>
  im_aload 1 l st S I fun l st S I =>
  im_aload 2 l st S I fun l st S I =>
  im_putR 14 4 l st S I fun l st S I =>
  im_return Rq l st S I) (fun l st S I =>
  im_aload 1 l st S I fun l st S I =>
  im_getR 14 4 l st S I fun l st S I =>
  im_aload 2 l st S I fun l st S I =>
  im_putR 14 2 l st S I fun l st S I =>
  im_aload 2 l st S I fun l st S I =>
  im_aload 1 l st S I fun l st S I =>
  im_putR 14 2 l st S I fun l st S I =>
  im_aload 1 l st S I fun l st S I =>
  im_aload 2 l st S I fun l st S I =>
  im_putR 14 4 l st S I fun l st S I =>
  im_return Rq l st S I)) (fun l st S I =>
  im_aload 0 l st S I fun l st S I =>
  im_aload 2 l st S I fun l st S I =>
  im_putR 13 3 l st S I fun l st S I =>
  im_aload 2 l st S I fun l st S I =>
  im_aload 1 l st S I fun l st S I =>
  im_putR 14 2 l st S I fun l st S I =>
  im_aload 1 l st S I fun l st S I =>
  im_aload 2 l st S I fun l st S I =>
  im_putR 14 4 l st S I fun l st S I =>
  im_return Rq l st S I)
theorem rv_J4_rotateLeft_32 {d : Nat} {Rq : SmQ} {l : SmL} {st : List SmV} {S : SmS} {I : SmI} (h : tr_J4_rotateLeft_32 d Rq l st S I) : SW mi_J4_rotateLeft 32 d Rq l st S I :=
  (show SmW mi_J4_rotateLeft 32 d Rq (tr_J4_rotateLeft_32 d Rq) from
  (xv_aload_n dJ4_rotateLeft_32 rfl
  (xv_aload_n dJ4_rotateLeft_33 rfl
  (xv_getR (k := 4) dJ4_rotateLeft_34 cl_14 tg_14 in_J21 (Nat.le_of_ble_eq_true rfl) rfl q1112
  (xv_putR (k := 4) dJ4_rotateLeft_37 cl_14 tg_14 in_J21 tyJ21_ok nmJ21 (Nat.le_of_ble_eq_true rfl) rfl ⟨Or.inl q1112, Or.inl rfl⟩
  (xv_aload_n dJ4_rotateLeft_40 rfl
  (xv_getR (k := 4) dJ4_rotateLeft_41 cl_14 tg_14 in_J21 (Nat.le_of_ble_eq_true rfl) rfl q1112
  (xv_ifnn dJ4_rotateLeft_44 rfl
  (xv_aload_n dJ4_rotateLeft_55 rfl
  (xv_getR (k := 4) dJ4_rotateLeft_56 cl_14 tg_14 in_J21 (Nat.le_of_ble_eq_true rfl) rfl q1112
  (xv_getR (k := 2) dJ4_rotateLeft_59 cl_14 tg_14 in_J21 (Nat.le_of_ble_eq_true rfl) rfl q1109
  (xv_aload_n dJ4_rotateLeft_62 rfl
  (xv_acmpne dJ4_rotateLeft_63 rfl
  (xv_aload_n dJ4_rotateLeft_77 rfl
  (xv_getR (k := 4) dJ4_rotateLeft_78 cl_14 tg_14 in_J21 (Nat.le_of_ble_eq_true rfl) rfl q1112
  (xv_aload_n dJ4_rotateLeft_81 rfl
  (xv_putR (k := 3) dJ4_rotateLeft_82 cl_14 tg_14 in_J21 tyJ21_ok nmJ21 (Nat.le_of_ble_eq_true rfl) rfl ⟨Or.inl q1110, Or.inl rfl⟩
  (xv_aload_n dJ4_rotateLeft_85 rfl
  (xv_aload_n dJ4_rotateLeft_86 rfl
  (xv_putR (k := 2) dJ4_rotateLeft_87 cl_14 tg_14 in_J21 tyJ21_ok nmJ21 (Nat.le_of_ble_eq_true rfl) rfl ⟨Or.inl q1109, Or.inl rfl⟩
  (xv_aload_n dJ4_rotateLeft_90 rfl
  (xv_aload_n dJ4_rotateLeft_91 rfl
  (xv_putR (k := 4) dJ4_rotateLeft_92 cl_14 tg_14 in_J21 tyJ21_ok nmJ21 (Nat.le_of_ble_eq_true rfl) rfl ⟨Or.inl q1112, Or.inl rfl⟩
  (xv_return dJ4_rotateLeft_95 rfl)))))))))))
  (xv_aload_n dJ4_rotateLeft_66 rfl
  (xv_getR (k := 4) dJ4_rotateLeft_67 cl_14 tg_14 in_J21 (Nat.le_of_ble_eq_true rfl) rfl q1112
  (xv_aload_n dJ4_rotateLeft_70 rfl
  (xv_putR (k := 2) dJ4_rotateLeft_71 cl_14 tg_14 in_J21 tyJ21_ok nmJ21 (Nat.le_of_ble_eq_true rfl) rfl ⟨Or.inl q1109, Or.inl rfl⟩
  (xv_goto dJ4_rotateLeft_74 rfl (xv_aload_n dJ4_rotateLeft_85 rfl
  (xv_aload_n dJ4_rotateLeft_86 rfl
  (xv_putR (k := 2) dJ4_rotateLeft_87 cl_14 tg_14 in_J21 tyJ21_ok nmJ21 (Nat.le_of_ble_eq_true rfl) rfl ⟨Or.inl q1109, Or.inl rfl⟩
  (xv_aload_n dJ4_rotateLeft_90 rfl
  (xv_aload_n dJ4_rotateLeft_91 rfl
  (xv_putR (k := 4) dJ4_rotateLeft_92 cl_14 tg_14 in_J21 tyJ21_ok nmJ21 (Nat.le_of_ble_eq_true rfl) rfl ⟨Or.inl q1112, Or.inl rfl⟩
  (xv_return dJ4_rotateLeft_95 rfl)))))))))))))))))
  (xv_aload_n dJ4_rotateLeft_47 rfl
  (xv_aload_n dJ4_rotateLeft_48 rfl
  (xv_putR (k := 3) dJ4_rotateLeft_49 cl_13 tg_13 in_J4 tyJ4_ok nmJ4 (Nat.le_of_ble_eq_true rfl) rfl ⟨Or.inl q1411, Or.inl rfl⟩
  (xv_goto dJ4_rotateLeft_52 rfl (xv_aload_n dJ4_rotateLeft_85 rfl
  (xv_aload_n dJ4_rotateLeft_86 rfl
  (xv_putR (k := 2) dJ4_rotateLeft_87 cl_14 tg_14 in_J21 tyJ21_ok nmJ21 (Nat.le_of_ble_eq_true rfl) rfl ⟨Or.inl q1109, Or.inl rfl⟩
  (xv_aload_n dJ4_rotateLeft_90 rfl
  (xv_aload_n dJ4_rotateLeft_91 rfl
  (xv_putR (k := 4) dJ4_rotateLeft_92 cl_14 tg_14 in_J21 tyJ21_ok nmJ21 (Nat.le_of_ble_eq_true rfl) rfl ⟨Or.inl q1112, Or.inl rfl⟩
  (xv_return dJ4_rotateLeft_95 rfl))))))))))))))))))) l st S I h
def tr_J4_rotateRight_0 (d : Nat) (Rq : SmQ) (l : SmL) (st : List SmV) (S : SmS) (I : SmI) : Prop :=
  im_aload 1 l st S I fun l st S I =>
  im_ifnull l st S I (fun l st S I =>
  im_return Rq l st S I) (fun l st S I =>
  im_aload 1 l st S I fun l st S I =>
  im_getR 14 2 l st S I fun l st S I =>
  im_astore 2 l st S I fun l st S I =>
  im_aload 1 l st S I fun l st S I =>
  im_aload 2 l st S I fun l st S I =>
  im_getR 14 3 l st S I fun l st S I =>
  im_putR 14 2 l st S I fun l st S I =>
  im_aload 2 l st S I fun l st S I =>
  im_getR 14 3 l st S I fun l st S I =>
  im_ifnull l st S I (fun l st S I =>
  SW mi_J4_rotateRight 32 d Rq l st S I) (fun l st S I =>
  im_aload 2 l st S I fun l st S I =>
  im_getR 14 3 l st S I fun l st S I =>
  im_aload 1 l st S I fun l st S I =>
  im_putR 14 4 l st S I fun l st S I =>
  SW mi_J4_rotateRight 32 d Rq l st S I))
theorem rv_J4_rotateRight_0 {d : Nat} {Rq : SmQ} {l : SmL} {st : List SmV} {S : SmS} {I : SmI} (h : tr_J4_rotateRight_0 d Rq l st S I) : SW mi_J4_rotateRight 0 d Rq l st S I :=
  (show SmW mi_J4_rotateRight 0 d Rq (tr_J4_rotateRight_0 d Rq) from
  (xv_aload_n dJ4_rotateRight_0 rfl
  (xv_ifnull dJ4_rotateRight_1 rfl
  (xv_return dJ4_rotateRight_95 rfl)
  (xv_aload_n dJ4_rotateRight_4 rfl
  (xv_getR (k := 2) dJ4_rotateRight_5 cl_14 tg_14 in_J21 (Nat.le_of_ble_eq_true rfl) rfl q1109
  (xv_astore_n dJ4_rotateRight_8 rfl (Nat.le_of_ble_eq_true rfl)
  (xv_aload_n dJ4_rotateRight_9 rfl
  (xv_aload_n dJ4_rotateRight_10 rfl
  (xv_getR (k := 3) dJ4_rotateRight_11 cl_14 tg_14 in_J21 (Nat.le_of_ble_eq_true rfl) rfl q1110
  (xv_putR (k := 2) dJ4_rotateRight_14 cl_14 tg_14 in_J21 tyJ21_ok nmJ21 (Nat.le_of_ble_eq_true rfl) rfl ⟨Or.inl q1109, Or.inl rfl⟩
  (xv_aload_n dJ4_rotateRight_17 rfl
  (xv_getR (k := 3) dJ4_rotateRight_18 cl_14 tg_14 in_J21 (Nat.le_of_ble_eq_true rfl) rfl q1110
  (xv_ifnull dJ4_rotateRight_21 rfl
  (fun _ _ _ _ h => h)
  (xv_aload_n dJ4_rotateRight_24 rfl
  (xv_getR (k := 3) dJ4_rotateRight_25 cl_14 tg_14 in_J21 (Nat.le_of_ble_eq_true rfl) rfl q1110
  (xv_aload_n dJ4_rotateRight_28 rfl
  (xv_putR (k := 4) dJ4_rotateRight_29 cl_14 tg_14 in_J21 tyJ21_ok nmJ21 (Nat.le_of_ble_eq_true rfl) rfl ⟨Or.inl q1112, Or.inl rfl⟩
  (fun _ _ _ _ h => h)))))))))))))))))) l st S I h
def tr_J4_rotateRight_32 (d : Nat) (Rq : SmQ) (l : SmL) (st : List SmV) (S : SmS) (I : SmI) : Prop :=
  im_aload 2 l st S I fun l st S I =>
  im_aload 1 l st S I fun l st S I =>
  im_getR 14 4 l st S I fun l st S I =>
  im_putR 14 4 l st S I fun l st S I =>
  im_aload 1 l st S I fun l st S I =>
  im_getR 14 4 l st S I fun l st S I =>
  im_ifnn l st S I (fun l st S I =>
  im_aload 1 l st S I fun l st S I =>
  im_getR 14 4 l st S I fun l st S I =>
  im_getR 14 3 l st S I fun l st S I =>
  im_aload 1 l st S I fun l st S I =>
  im_acmpne l st S I (fun l st S I =>
  im_aload 1 l st S I fun l st S I =>
  im_getR 14 4 l st S I fun l st S I =>
  im_aload 2 l st S I fun l st S I =>
  im_putR 14 2 l st S I fun l st S I =>
  im_aload 2 l st S I fun l st S I =>
  im_aload 1 l st S I fun l st S I =>
  im_putR 14 3 l st S I fun l st S I =>
  im_aload 1 l st S I fun l st S I =>
  im_aload 2 l st S I fun l st S I =>
  im_putR 14 4 l st S I fun l st S I =>
  im_return Rq l st S I) (fun l st S I =>
  im_aload 1 l st S I fun l st S I =>
  im_getR 14 4 l st S I fun l st S I =>
  im_aload 2 l st S I fun l st S I =>
  im_putR 14 3 l st S I fun l st S I =>
  im_aload 2 l st S I fun l st S I =>
  im_aload 1 l st S I fun l st S I =>
  im_putR 14 3 l st S I fun l st S I =>
  im_aload 1 l st S I fun l st S I =>
  im_aload 2 l st S I fun l st S I =>
  im_putR 14 4 l st S I fun l st S I =>
  im_return Rq l st S I)) (fun l st S I =>
  im_aload 0 l st S I fun l st S I =>
  im_aload 2 l st S I fun l st S I =>
  im_putR 13 3 l st S I fun l st S I =>
  im_aload 2 l st S I fun l st S I =>
  im_aload 1 l st S I fun l st S I =>
  im_putR 14 3 l st S I fun l st S I =>
  im_aload 1 l st S I fun l st S I =>
  im_aload 2 l st S I fun l st S I =>
  im_putR 14 4 l st S I fun l st S I =>
  im_return Rq l st S I)
theorem rv_J4_rotateRight_32 {d : Nat} {Rq : SmQ} {l : SmL} {st : List SmV} {S : SmS} {I : SmI} (h : tr_J4_rotateRight_32 d Rq l st S I) : SW mi_J4_rotateRight 32 d Rq l st S I :=
  (show SmW mi_J4_rotateRight 32 d Rq (tr_J4_rotateRight_32 d Rq) from
  (xv_aload_n dJ4_rotateRight_32 rfl
  (xv_aload_n dJ4_rotateRight_33 rfl
  (xv_getR (k := 4) dJ4_rotateRight_34 cl_14 tg_14 in_J21 (Nat.le_of_ble_eq_true rfl) rfl q1112
  (xv_putR (k := 4) dJ4_rotateRight_37 cl_14 tg_14 in_J21 tyJ21_ok nmJ21 (Nat.le_of_ble_eq_true rfl) rfl ⟨Or.inl q1112, Or.inl rfl⟩
  (xv_aload_n dJ4_rotateRight_40 rfl
  (xv_getR (k := 4) dJ4_rotateRight_41 cl_14 tg_14 in_J21 (Nat.le_of_ble_eq_true rfl) rfl q1112
  (xv_ifnn dJ4_rotateRight_44 rfl
  (xv_aload_n dJ4_rotateRight_55 rfl
  (xv_getR (k := 4) dJ4_rotateRight_56 cl_14 tg_14 in_J21 (Nat.le_of_ble_eq_true rfl) rfl q1112
  (xv_getR (k := 3) dJ4_rotateRight_59 cl_14 tg_14 in_J21 (Nat.le_of_ble_eq_true rfl) rfl q1110
  (xv_aload_n dJ4_rotateRight_62 rfl
  (xv_acmpne dJ4_rotateRight_63 rfl
  (xv_aload_n dJ4_rotateRight_77 rfl
  (xv_getR (k := 4) dJ4_rotateRight_78 cl_14 tg_14 in_J21 (Nat.le_of_ble_eq_true rfl) rfl q1112
  (xv_aload_n dJ4_rotateRight_81 rfl
  (xv_putR (k := 2) dJ4_rotateRight_82 cl_14 tg_14 in_J21 tyJ21_ok nmJ21 (Nat.le_of_ble_eq_true rfl) rfl ⟨Or.inl q1109, Or.inl rfl⟩
  (xv_aload_n dJ4_rotateRight_85 rfl
  (xv_aload_n dJ4_rotateRight_86 rfl
  (xv_putR (k := 3) dJ4_rotateRight_87 cl_14 tg_14 in_J21 tyJ21_ok nmJ21 (Nat.le_of_ble_eq_true rfl) rfl ⟨Or.inl q1110, Or.inl rfl⟩
  (xv_aload_n dJ4_rotateRight_90 rfl
  (xv_aload_n dJ4_rotateRight_91 rfl
  (xv_putR (k := 4) dJ4_rotateRight_92 cl_14 tg_14 in_J21 tyJ21_ok nmJ21 (Nat.le_of_ble_eq_true rfl) rfl ⟨Or.inl q1112, Or.inl rfl⟩
  (xv_return dJ4_rotateRight_95 rfl)))))))))))
  (xv_aload_n dJ4_rotateRight_66 rfl
  (xv_getR (k := 4) dJ4_rotateRight_67 cl_14 tg_14 in_J21 (Nat.le_of_ble_eq_true rfl) rfl q1112
  (xv_aload_n dJ4_rotateRight_70 rfl
  (xv_putR (k := 3) dJ4_rotateRight_71 cl_14 tg_14 in_J21 tyJ21_ok nmJ21 (Nat.le_of_ble_eq_true rfl) rfl ⟨Or.inl q1110, Or.inl rfl⟩
  (xv_goto dJ4_rotateRight_74 rfl (xv_aload_n dJ4_rotateRight_85 rfl
  (xv_aload_n dJ4_rotateRight_86 rfl
  (xv_putR (k := 3) dJ4_rotateRight_87 cl_14 tg_14 in_J21 tyJ21_ok nmJ21 (Nat.le_of_ble_eq_true rfl) rfl ⟨Or.inl q1110, Or.inl rfl⟩
  (xv_aload_n dJ4_rotateRight_90 rfl
  (xv_aload_n dJ4_rotateRight_91 rfl
  (xv_putR (k := 4) dJ4_rotateRight_92 cl_14 tg_14 in_J21 tyJ21_ok nmJ21 (Nat.le_of_ble_eq_true rfl) rfl ⟨Or.inl q1112, Or.inl rfl⟩
  (xv_return dJ4_rotateRight_95 rfl)))))))))))))))))
  (xv_aload_n dJ4_rotateRight_47 rfl
  (xv_aload_n dJ4_rotateRight_48 rfl
  (xv_putR (k := 3) dJ4_rotateRight_49 cl_13 tg_13 in_J4 tyJ4_ok nmJ4 (Nat.le_of_ble_eq_true rfl) rfl ⟨Or.inl q1411, Or.inl rfl⟩
  (xv_goto dJ4_rotateRight_52 rfl (xv_aload_n dJ4_rotateRight_85 rfl
  (xv_aload_n dJ4_rotateRight_86 rfl
  (xv_putR (k := 3) dJ4_rotateRight_87 cl_14 tg_14 in_J21 tyJ21_ok nmJ21 (Nat.le_of_ble_eq_true rfl) rfl ⟨Or.inl q1110, Or.inl rfl⟩
  (xv_aload_n dJ4_rotateRight_90 rfl
  (xv_aload_n dJ4_rotateRight_91 rfl
  (xv_putR (k := 4) dJ4_rotateRight_92 cl_14 tg_14 in_J21 tyJ21_ok nmJ21 (Nat.le_of_ble_eq_true rfl) rfl ⟨Or.inl q1112, Or.inl rfl⟩
  (xv_return dJ4_rotateRight_95 rfl))))))))))))))))))) l st S I h
def tr_J4_fixAfterInsertion_0 (d : Nat) (Rq : SmQ) (l : SmL) (st : List SmV) (S : SmS) (I : SmI) : Prop :=
  im_aload 1 l st S I fun l st S I =>
  im_ic 0 l st S I fun l st S I =>
  im_putZ 14 5 l st S I fun l st S I =>
  SW mi_J4_fixAfterInsertion 5 d Rq l st S I
theorem rv_J4_fixAfterInsertion_0 {d : Nat} {Rq : SmQ} {l : SmL} {st : List SmV} {S : SmS} {I : SmI} (h : tr_J4_fixAfterInsertion_0 d Rq l st S I) : SW mi_J4_fixAfterInsertion 0 d Rq l st S I :=
  (show SmW mi_J4_fixAfterInsertion 0 d Rq (tr_J4_fixAfterInsertion_0 d Rq) from
  (xv_aload_n dJ4_fixAfterInsertion_0 rfl
  (xv_iconst dJ4_fixAfterInsertion_1 rfl (inRd rfl)
  (xv_putZ (k := 5) dJ4_fixAfterInsertion_2 cl_14 tg_14 in_J21 tyJ21_ok nmJ21 (Nat.le_of_ble_eq_true rfl) rfl ⟨Or.inl q1114, Or.inl rfl⟩
  (fun _ _ _ _ h => h))))) l st S I h
def tr_J4_fixAfterInsertion_5 (d : Nat) (Rq : SmQ) (l : SmL) (st : List SmV) (S : SmS) (I : SmI) : Prop :=
  im_aload 1 l st S I fun l st S I =>
  im_ifnull l st S I (fun l st S I =>
  SW mi_J4_fixAfterInsertion 258 d Rq l st S I) (fun l st S I =>
  im_aload 1 l st S I fun l st S I =>
  im_aload 0 l st S I fun l st S I =>
  im_getR 13 3 l st S I fun l st S I =>
  im_acmpeq l st S I (fun l st S I =>
  SW mi_J4_fixAfterInsertion 258 d Rq l st S I) (fun l st S I =>
  im_aload 1 l st S I fun l st S I =>
  im_getR 14 4 l st S I fun l st S I =>
  im_getI 14 5 l st S I fun l st S I =>
  im_zne l st S I (fun l st S I =>
  SW mi_J4_fixAfterInsertion 258 d Rq l st S I) (fun l st S I =>
  SW mi_J4_fixAfterInsertion 27 d Rq l st S I)))
theorem rv_J4_fixAfterInsertion_5 {d : Nat} {Rq : SmQ} {l : SmL} {st : List SmV} {S : SmS} {I : SmI} (h : tr_J4_fixAfterInsertion_5 d Rq l st S I) : SW mi_J4_fixAfterInsertion 5 d Rq l st S I :=
  (show SmW mi_J4_fixAfterInsertion 5 d Rq (tr_J4_fixAfterInsertion_5 d Rq) from
  (xv_aload_n dJ4_fixAfterInsertion_5 rfl
  (xv_ifnull dJ4_fixAfterInsertion_6 rfl
  (fun _ _ _ _ h => h)
  (xv_aload_n dJ4_fixAfterInsertion_9 rfl
  (xv_aload_n dJ4_fixAfterInsertion_10 rfl
  (xv_getR (k := 3) dJ4_fixAfterInsertion_11 cl_13 tg_13 in_J4 (Nat.le_of_ble_eq_true rfl) rfl q1411
  (xv_acmpeq dJ4_fixAfterInsertion_14 rfl
  (fun _ _ _ _ h => h)
  (xv_aload_n dJ4_fixAfterInsertion_17 rfl
  (xv_getR (k := 4) dJ4_fixAfterInsertion_18 cl_14 tg_14 in_J21 (Nat.le_of_ble_eq_true rfl) rfl q1112
  (xv_getI (k := 5) dJ4_fixAfterInsertion_21 cl_14 tg_14 in_J21 (Nat.le_of_ble_eq_true rfl) rfl q1114
  (xv_zne dJ4_fixAfterInsertion_24 rfl
  (fun _ _ _ _ h => h)
  (fun _ _ _ _ h => h)))))))))))) l st S I h
def tr_J4_fixAfterInsertion_27 (d : Nat) (Rq : SmQ) (l : SmL) (st : List SmV) (S : SmS) (I : SmI) : Prop :=
  im_aload 1 l st S I fun l st S I =>
  im_p_J4_parentOf d l st S I fun l st S I =>
  im_aload 1 l st S I fun l st S I =>
  im_p_J4_parentOf d l st S I fun l st S I =>
  im_p_J4_parentOf d l st S I fun l st S I =>
  im_p_J4_leftOf d l st S I fun l st S I =>
  im_acmpne l st S I (fun l st S I =>
  SW mi_J4_fixAfterInsertion 151 d Rq l st S I) (fun l st S I =>
  SW mi_J4_fixAfterInsertion 44 d Rq l st S I)
theorem rv_J4_fixAfterInsertion_27 {d : Nat} {Rq : SmQ} {l : SmL} {st : List SmV} {S : SmS} {I : SmI} (h : tr_J4_fixAfterInsertion_27 d Rq l st S I) : SW mi_J4_fixAfterInsertion 27 d Rq l st S I :=
  (show SmW mi_J4_fixAfterInsertion 27 d Rq (tr_J4_fixAfterInsertion_27 d Rq) from
  (xv_aload_n dJ4_fixAfterInsertion_27 rfl
  (xv_p_J4_parentOf dJ4_fixAfterInsertion_28 (lw_S q1141 q1142 q111 q1143)
  (xv_aload_n dJ4_fixAfterInsertion_31 rfl
  (xv_p_J4_parentOf dJ4_fixAfterInsertion_32 (lw_S q1141 q1142 q111 q1143)
  (xv_p_J4_parentOf dJ4_fixAfterInsertion_35 (lw_S q1141 q1142 q111 q1143)
  (xv_p_J4_leftOf dJ4_fixAfterInsertion_38 (lw_S q1144 q1145 q111 q1146)
  (xv_acmpne dJ4_fixAfterInsertion_41 rfl
  (fun _ _ _ _ h => h)
  (fun _ _ _ _ h => h))))))))) l st S I h
def tr_J4_fixAfterInsertion_44 (d : Nat) (Rq : SmQ) (l : SmL) (st : List SmV) (S : SmS) (I : SmI) : Prop :=
  im_aload 1 l st S I fun l st S I =>
  im_p_J4_parentOf d l st S I fun l st S I =>
  im_p_J4_parentOf d l st S I fun l st S I =>
  im_p_J4_rightOf d l st S I fun l st S I =>
  im_astore 2 l st S I fun l st S I =>
  im_aload 2 l st S I fun l st S I =>
  im_p_J4_colorOf d l st S I fun l st S I =>
  im_zne l st S I (fun l st S I =>
  SW mi_J4_fixAfterInsertion 97 d Rq l st S I) (fun l st S I =>
  SW mi_J4_fixAfterInsertion 62 d Rq l st S I)
theorem rv_J4_fixAfterInsertion_44 {d : Nat} {Rq : SmQ} {l : SmL} {st : List SmV} {S : SmS} {I : SmI} (h : tr_J4_fixAfterInsertion_44 d Rq l st S I) : SW mi_J4_fixAfterInsertion 44 d Rq l st S I :=
  (show SmW mi_J4_fixAfterInsertion 44 d Rq (tr_J4_fixAfterInsertion_44 d Rq) from
  (xv_aload_n dJ4_fixAfterInsertion_44 rfl
  (xv_p_J4_parentOf dJ4_fixAfterInsertion_45 (lw_S q1141 q1142 q111 q1143)
  (xv_p_J4_parentOf dJ4_fixAfterInsertion_48 (lw_S q1141 q1142 q111 q1143)
  (xv_p_J4_rightOf dJ4_fixAfterInsertion_51 (lw_S q1147 q1148 q111 q1149)
  (xv_astore_n dJ4_fixAfterInsertion_54 rfl (Nat.le_of_ble_eq_true rfl)
  (xv_aload_n dJ4_fixAfterInsertion_55 rfl
  (xv_p_J4_colorOf dJ4_fixAfterInsertion_56 (lw_S q1150 q1151 q111 q1152)
  (xv_zne dJ4_fixAfterInsertion_59 rfl
  (fun _ _ _ _ h => h)
  (fun _ _ _ _ h => h)))))))))) l st S I h
def tr_J4_fixAfterInsertion_62 (d : Nat) (Rq : SmQ) (l : SmL) (st : List SmV) (S : SmS) (I : SmI) : Prop :=
  im_aload 1 l st S I fun l st S I =>
  im_p_J4_parentOf d l st S I fun l st S I =>
  im_ic 1 l st S I fun l st S I =>
  im_callS 2 mi_J4_setColor d (retK mi_J4_fixAfterInsertion 67 70 d Rq l) st S I
theorem rv_J4_fixAfterInsertion_62 {d : Nat} {Rq : SmQ} {l : SmL} {st : List SmV} {S : SmS} {I : SmI} (h : tr_J4_fixAfterInsertion_62 d Rq l st S I) : SW mi_J4_fixAfterInsertion 62 d Rq l st S I :=
  (show SmW mi_J4_fixAfterInsertion 62 d Rq (tr_J4_fixAfterInsertion_62 d Rq) from
  (xv_aload_n dJ4_fixAfterInsertion_62 rfl
  (xv_p_J4_parentOf dJ4_fixAfterInsertion_63 (lw_S q1141 q1142 q111 q1143)
  (xv_iconst dJ4_fixAfterInsertion_66 rfl (inRd rfl)
  (xv_callS dJ4_fixAfterInsertion_67 ok_J4_setColor (lw_S q1153 q1154 q111 q1155)))))) l st S I h
def tr_J4_fixAfterInsertion_70 (d : Nat) (Rq : SmQ) (l : SmL) (st : List SmV) (S : SmS) (I : SmI) : Prop :=
  im_aload 2 l st S I fun l st S I =>
  im_ic 1 l st S I fun l st S I =>
  im_callS 2 mi_J4_setColor d (retK mi_J4_fixAfterInsertion 72 75 d Rq l) st S I
theorem rv_J4_fixAfterInsertion_70 {d : Nat} {Rq : SmQ} {l : SmL} {st : List SmV} {S : SmS} {I : SmI} (h : tr_J4_fixAfterInsertion_70 d Rq l st S I) : SW mi_J4_fixAfterInsertion 70 d Rq l st S I :=
  (show SmW mi_J4_fixAfterInsertion 70 d Rq (tr_J4_fixAfterInsertion_70 d Rq) from
  (xv_aload_n dJ4_fixAfterInsertion_70 rfl
  (xv_iconst dJ4_fixAfterInsertion_71 rfl (inRd rfl)
  (xv_callS dJ4_fixAfterInsertion_72 ok_J4_setColor (lw_S q1153 q1154 q111 q1155))))) l st S I h
def tr_J4_fixAfterInsertion_75 (d : Nat) (Rq : SmQ) (l : SmL) (st : List SmV) (S : SmS) (I : SmI) : Prop :=
  im_aload 1 l st S I fun l st S I =>
  im_p_J4_parentOf d l st S I fun l st S I =>
  im_p_J4_parentOf d l st S I fun l st S I =>
  im_ic 0 l st S I fun l st S I =>
  im_callS 2 mi_J4_setColor d (retK mi_J4_fixAfterInsertion 83 86 d Rq l) st S I
theorem rv_J4_fixAfterInsertion_75 {d : Nat} {Rq : SmQ} {l : SmL} {st : List SmV} {S : SmS} {I : SmI} (h : tr_J4_fixAfterInsertion_75 d Rq l st S I) : SW mi_J4_fixAfterInsertion 75 d Rq l st S I :=
  (show SmW mi_J4_fixAfterInsertion 75 d Rq (tr_J4_fixAfterInsertion_75 d Rq) from
  (xv_aload_n dJ4_fixAfterInsertion_75 rfl
  (xv_p_J4_parentOf dJ4_fixAfterInsertion_76 (lw_S q1141 q1142 q111 q1143)
  (xv_p_J4_parentOf dJ4_fixAfterInsertion_79 (lw_S q1141 q1142 q111 q1143)
  (xv_iconst dJ4_fixAfterInsertion_82 rfl (inRd rfl)
  (xv_callS dJ4_fixAfterInsertion_83 ok_J4_setColor (lw_S q1153 q1154 q111 q1155))))))) l st S I h
def tr_J4_fixAfterInsertion_86 (d : Nat) (Rq : SmQ) (l : SmL) (st : List SmV) (S : SmS) (I : SmI) : Prop :=
  im_aload 1 l st S I fun l st S I =>
  im_p_J4_parentOf d l st S I fun l st S I =>
  im_p_J4_parentOf d l st S I fun l st S I =>
  im_astore 1 l st S I fun l st S I =>
  SW mi_J4_fixAfterInsertion 148 d Rq l st S I
theorem rv_J4_fixAfterInsertion_86 {d : Nat} {Rq : SmQ} {l : SmL} {st : List SmV} {S : SmS} {I : SmI} (h : tr_J4_fixAfterInsertion_86 d Rq l st S I) : SW mi_J4_fixAfterInsertion 86 d Rq l st S I :=
  (show SmW mi_J4_fixAfterInsertion 86 d Rq (tr_J4_fixAfterInsertion_86 d Rq) from
  (xv_aload_n dJ4_fixAfterInsertion_86 rfl
  (xv_p_J4_parentOf dJ4_fixAfterInsertion_87 (lw_S q1141 q1142 q111 q1143)
  (xv_p_J4_parentOf dJ4_fixAfterInsertion_90 (lw_S q1141 q1142 q111 q1143)
  (xv_astore_n dJ4_fixAfterInsertion_93 rfl (Nat.le_of_ble_eq_true rfl)
  (xv_goto dJ4_fixAfterInsertion_94 rfl (fun _ _ _ _ h => h))))))) l st S I h
def tr_J4_fixAfterInsertion_97 (d : Nat) (Rq : SmQ) (l : SmL) (st : List SmV) (S : SmS) (I : SmI) : Prop :=
  im_aload 1 l st S I fun l st S I =>
  im_aload 1 l st S I fun l st S I =>
  im_p_J4_parentOf d l st S I fun l st S I =>
  im_p_J4_rightOf d l st S I fun l st S I =>
  im_acmpne l st S I (fun l st S I =>
  SW mi_J4_fixAfterInsertion 118 d Rq l st S I) (fun l st S I =>
  im_aload 1 l st S I fun l st S I =>
  im_p_J4_parentOf d l st S I fun l st S I =>
  im_astore 1 l st S I fun l st S I =>
  im_aload 0 l st S I fun l st S I =>
  im_aload 1 l st S I fun l st S I =>
  im_callV 1 13 mi_J4_rotateLeft d (retK mi_J4_fixAfterInsertion 115 118 d Rq l) st S I)
theorem rv_J4_fixAfterInsertion_97 {d : Nat} {Rq : SmQ} {l : SmL} {st : List SmV} {S : SmS} {I : SmI} (h : tr_J4_fixAfterInsertion_97 d Rq l st S I) : SW mi_J4_fixAfterInsertion 97 d Rq l st S I :=
  (show SmW mi_J4_fixAfterInsertion 97 d Rq (tr_J4_fixAfterInsertion_97 d Rq) from
  (xv_aload_n dJ4_fixAfterInsertion_97 rfl
  (xv_aload_n dJ4_fixAfterInsertion_98 rfl
  (xv_p_J4_parentOf dJ4_fixAfterInsertion_99 (lw_S q1141 q1142 q111 q1143)
  (xv_p_J4_rightOf dJ4_fixAfterInsertion_102 (lw_S q1147 q1148 q111 q1149)
  (xv_acmpne dJ4_fixAfterInsertion_105 rfl
  (fun _ _ _ _ h => h)
  (xv_aload_n dJ4_fixAfterInsertion_108 rfl
  (xv_p_J4_parentOf dJ4_fixAfterInsertion_109 (lw_S q1141 q1142 q111 q1143)
  (xv_astore_n dJ4_fixAfterInsertion_112 rfl (Nat.le_of_ble_eq_true rfl)
  (xv_aload_n dJ4_fixAfterInsertion_113 rfl
  (xv_aload_n dJ4_fixAfterInsertion_114 rfl
  (xv_callV dJ4_fixAfterInsertion_115 cl_13 tg_13 ok_J4_rotateLeft rfl (lw_V q1156 q1158 qs35 q111 q1159))))))))))))) l st S I h
def tr_J4_fixAfterInsertion_118 (d : Nat) (Rq : SmQ) (l : SmL) (st : List SmV) (S : SmS) (I : SmI) : Prop :=
  im_aload 1 l st S I fun l st S I =>
  im_p_J4_parentOf d l st S I fun l st S I =>
  im_ic 1 l st S I fun l st S I =>
  im_callS 2 mi_J4_setColor d (retK mi_J4_fixAfterInsertion 123 126 d Rq l) st S I
theorem rv_J4_fixAfterInsertion_118 {d : Nat} {Rq : SmQ} {l : SmL} {st : List SmV} {S : SmS} {I : SmI} (h : tr_J4_fixAfterInsertion_118 d Rq l st S I) : SW mi_J4_fixAfterInsertion 118 d Rq l st S I :=
  (show SmW mi_J4_fixAfterInsertion 118 d Rq (tr_J4_fixAfterInsertion_118 d Rq) from
  (xv_aload_n dJ4_fixAfterInsertion_118 rfl
  (xv_p_J4_parentOf dJ4_fixAfterInsertion_119 (lw_S q1141 q1142 q111 q1143)
  (xv_iconst dJ4_fixAfterInsertion_122 rfl (inRd rfl)
  (xv_callS dJ4_fixAfterInsertion_123 ok_J4_setColor (lw_S q1153 q1154 q111 q1155)))))) l st S I h
def tr_J4_fixAfterInsertion_126 (d : Nat) (Rq : SmQ) (l : SmL) (st : List SmV) (S : SmS) (I : SmI) : Prop :=
  im_aload 1 l st S I fun l st S I =>
  im_p_J4_parentOf d l st S I fun l st S I =>
  im_p_J4_parentOf d l st S I fun l st S I =>
  im_ic 0 l st S I fun l st S I =>
  im_callS 2 mi_J4_setColor d (retK mi_J4_fixAfterInsertion 134 137 d Rq l) st S I
theorem rv_J4_fixAfterInsertion_126 {d : Nat} {Rq : SmQ} {l : SmL} {st : List SmV} {S : SmS} {I : SmI} (h : tr_J4_fixAfterInsertion_126 d Rq l st S I) : SW mi_J4_fixAfterInsertion 126 d Rq l st S I :=
  (show SmW mi_J4_fixAfterInsertion 126 d Rq (tr_J4_fixAfterInsertion_126 d Rq) from
  (xv_aload_n dJ4_fixAfterInsertion_126 rfl
  (xv_p_J4_parentOf dJ4_fixAfterInsertion_127 (lw_S q1141 q1142 q111 q1143)
  (xv_p_J4_parentOf dJ4_fixAfterInsertion_130 (lw_S q1141 q1142 q111 q1143)
  (xv_iconst dJ4_fixAfterInsertion_133 rfl (inRd rfl)
  (xv_callS dJ4_fixAfterInsertion_134 ok_J4_setColor (lw_S q1153 q1154 q111 q1155))))))) l st S I h
def tr_J4_fixAfterInsertion_137 (d : Nat) (Rq : SmQ) (l : SmL) (st : List SmV) (S : SmS) (I : SmI) : Prop :=
  im_aload 0 l st S I fun l st S I =>
  im_aload 1 l st S I fun l st S I =>
  im_p_J4_parentOf d l st S I fun l st S I =>
  im_p_J4_parentOf d l st S I fun l st S I =>
  im_callV 1 13 mi_J4_rotateRight d (retK mi_J4_fixAfterInsertion 145 148 d Rq l) st S I
theorem rv_J4_fixAfterInsertion_137 {d : Nat} {Rq : SmQ} {l : SmL} {st : List SmV} {S : SmS} {I : SmI} (h : tr_J4_fixAfterInsertion_137 d Rq l st S I) : SW mi_J4_fixAfterInsertion 137 d Rq l st S I :=
  (show SmW mi_J4_fixAfterInsertion 137 d Rq (tr_J4_fixAfterInsertion_137 d Rq) from
  (xv_aload_n dJ4_fixAfterInsertion_137 rfl
  (xv_aload_n dJ4_fixAfterInsertion_138 rfl
  (xv_p_J4_parentOf dJ4_fixAfterInsertion_139 (lw_S q1141 q1142 q111 q1143)
  (xv_p_J4_parentOf dJ4_fixAfterInsertion_142 (lw_S q1141 q1142 q111 q1143)
  (xv_callV dJ4_fixAfterInsertion_145 cl_13 tg_13 ok_J4_rotateRight rfl (lw_V q1160 q1162 qs36 q111 q1163))))))) l st S I h
def tr_J4_fixAfterInsertion_148 (d : Nat) (Rq : SmQ) (l : SmL) (st : List SmV) (S : SmS) (I : SmI) : Prop :=
  SW mi_J4_fixAfterInsertion 5 d Rq l st S I
theorem rv_J4_fixAfterInsertion_148 {d : Nat} {Rq : SmQ} {l : SmL} {st : List SmV} {S : SmS} {I : SmI} (h : tr_J4_fixAfterInsertion_148 d Rq l st S I) : SW mi_J4_fixAfterInsertion 148 d Rq l st S I :=
  (show SmW mi_J4_fixAfterInsertion 148 d Rq (tr_J4_fixAfterInsertion_148 d Rq) from
  (xv_goto dJ4_fixAfterInsertion_148 rfl (fun _ _ _ _ h => h))) l st S I h
def tr_J4_fixAfterInsertion_151 (d : Nat) (Rq : SmQ) (l : SmL) (st : List SmV) (S : SmS) (I : SmI) : Prop :=
  im_aload 1 l st S I fun l st S I =>
  im_p_J4_parentOf d l st S I fun l st S I =>
  im_p_J4_parentOf d l st S I fun l st S I =>
  im_p_J4_leftOf d l st S I fun l st S I =>
  im_astore 2 l st S I fun l st S I =>
  im_aload 2 l st S I fun l st S I =>
  im_p_J4_colorOf d l st S I fun l st S I =>
  im_zne l st S I (fun l st S I =>
  SW mi_J4_fixAfterInsertion 204 d Rq l st S I) (fun l st S I =>
  SW mi_J4_fixAfterInsertion 169 d Rq l st S I)
theorem rv_J4_fixAfterInsertion_151 {d : Nat} {Rq : SmQ} {l : SmL} {st : List SmV} {S : SmS} {I : SmI} (h : tr_J4_fixAfterInsertion_151 d Rq l st S I) : SW mi_J4_fixAfterInsertion 151 d Rq l st S I :=
  (show SmW mi_J4_fixAfterInsertion 151 d Rq (tr_J4_fixAfterInsertion_151 d Rq) from
  (xv_aload_n dJ4_fixAfterInsertion_151 rfl
  (xv_p_J4_parentOf dJ4_fixAfterInsertion_152 (lw_S q1141 q1142 q111 q1143)
  (xv_p_J4_parentOf dJ4_fixAfterInsertion_155 (lw_S q1141 q1142 q111 q1143)
  (xv_p_J4_leftOf dJ4_fixAfterInsertion_158 (lw_S q1144 q1145 q111 q1146)
  (xv_astore_n dJ4_fixAfterInsertion_161 rfl (Nat.le_of_ble_eq_true rfl)
  (xv_aload_n dJ4_fixAfterInsertion_162 rfl
  (xv_p_J4_colorOf dJ4_fixAfterInsertion_163 (lw_S q1150 q1151 q111 q1152)
  (xv_zne dJ4_fixAfterInsertion_166 rfl
  (fun _ _ _ _ h => h)
  (fun _ _ _ _ h => h)))))))))) l st S I h
def tr_J4_fixAfterInsertion_169 (d : Nat) (Rq : SmQ) (l : SmL) (st : List SmV) (S : SmS) (I : SmI) : Prop :=
  im_aload 1 l st S I fun l st S I =>
  im_p_J4_parentOf d l st S I fun l st S I =>
  im_ic 1 l st S I fun l st S I =>
  im_callS 2 mi_J4_setColor d (retK mi_J4_fixAfterInsertion 174 177 d Rq l) st S I
theorem rv_J4_fixAfterInsertion_169 {d : Nat} {Rq : SmQ} {l : SmL} {st : List SmV} {S : SmS} {I : SmI} (h : tr_J4_fixAfterInsertion_169 d Rq l st S I) : SW mi_J4_fixAfterInsertion 169 d Rq l st S I :=
  (show SmW mi_J4_fixAfterInsertion 169 d Rq (tr_J4_fixAfterInsertion_169 d Rq) from
  (xv_aload_n dJ4_fixAfterInsertion_169 rfl
  (xv_p_J4_parentOf dJ4_fixAfterInsertion_170 (lw_S q1141 q1142 q111 q1143)
  (xv_iconst dJ4_fixAfterInsertion_173 rfl (inRd rfl)
  (xv_callS dJ4_fixAfterInsertion_174 ok_J4_setColor (lw_S q1153 q1154 q111 q1155)))))) l st S I h
def tr_J4_fixAfterInsertion_177 (d : Nat) (Rq : SmQ) (l : SmL) (st : List SmV) (S : SmS) (I : SmI) : Prop :=
  im_aload 2 l st S I fun l st S I =>
  im_ic 1 l st S I fun l st S I =>
  im_callS 2 mi_J4_setColor d (retK mi_J4_fixAfterInsertion 179 182 d Rq l) st S I
theorem rv_J4_fixAfterInsertion_177 {d : Nat} {Rq : SmQ} {l : SmL} {st : List SmV} {S : SmS} {I : SmI} (h : tr_J4_fixAfterInsertion_177 d Rq l st S I) : SW mi_J4_fixAfterInsertion 177 d Rq l st S I :=
  (show SmW mi_J4_fixAfterInsertion 177 d Rq (tr_J4_fixAfterInsertion_177 d Rq) from
  (xv_aload_n dJ4_fixAfterInsertion_177 rfl
  (xv_iconst dJ4_fixAfterInsertion_178 rfl (inRd rfl)
  (xv_callS dJ4_fixAfterInsertion_179 ok_J4_setColor (lw_S q1153 q1154 q111 q1155))))) l st S I h
def tr_J4_fixAfterInsertion_182 (d : Nat) (Rq : SmQ) (l : SmL) (st : List SmV) (S : SmS) (I : SmI) : Prop :=
  im_aload 1 l st S I fun l st S I =>
  im_p_J4_parentOf d l st S I fun l st S I =>
  im_p_J4_parentOf d l st S I fun l st S I =>
  im_ic 0 l st S I fun l st S I =>
  im_callS 2 mi_J4_setColor d (retK mi_J4_fixAfterInsertion 190 193 d Rq l) st S I
theorem rv_J4_fixAfterInsertion_182 {d : Nat} {Rq : SmQ} {l : SmL} {st : List SmV} {S : SmS} {I : SmI} (h : tr_J4_fixAfterInsertion_182 d Rq l st S I) : SW mi_J4_fixAfterInsertion 182 d Rq l st S I :=
  (show SmW mi_J4_fixAfterInsertion 182 d Rq (tr_J4_fixAfterInsertion_182 d Rq) from
  (xv_aload_n dJ4_fixAfterInsertion_182 rfl
  (xv_p_J4_parentOf dJ4_fixAfterInsertion_183 (lw_S q1141 q1142 q111 q1143)
  (xv_p_J4_parentOf dJ4_fixAfterInsertion_186 (lw_S q1141 q1142 q111 q1143)
  (xv_iconst dJ4_fixAfterInsertion_189 rfl (inRd rfl)
  (xv_callS dJ4_fixAfterInsertion_190 ok_J4_setColor (lw_S q1153 q1154 q111 q1155))))))) l st S I h
def tr_J4_fixAfterInsertion_193 (d : Nat) (Rq : SmQ) (l : SmL) (st : List SmV) (S : SmS) (I : SmI) : Prop :=
  im_aload 1 l st S I fun l st S I =>
  im_p_J4_parentOf d l st S I fun l st S I =>
  im_p_J4_parentOf d l st S I fun l st S I =>
  im_astore 1 l st S I fun l st S I =>
  SW mi_J4_fixAfterInsertion 255 d Rq l st S I
theorem rv_J4_fixAfterInsertion_193 {d : Nat} {Rq : SmQ} {l : SmL} {st : List SmV} {S : SmS} {I : SmI} (h : tr_J4_fixAfterInsertion_193 d Rq l st S I) : SW mi_J4_fixAfterInsertion 193 d Rq l st S I :=
  (show SmW mi_J4_fixAfterInsertion 193 d Rq (tr_J4_fixAfterInsertion_193 d Rq) from
  (xv_aload_n dJ4_fixAfterInsertion_193 rfl
  (xv_p_J4_parentOf dJ4_fixAfterInsertion_194 (lw_S q1141 q1142 q111 q1143)
  (xv_p_J4_parentOf dJ4_fixAfterInsertion_197 (lw_S q1141 q1142 q111 q1143)
  (xv_astore_n dJ4_fixAfterInsertion_200 rfl (Nat.le_of_ble_eq_true rfl)
  (xv_goto dJ4_fixAfterInsertion_201 rfl (fun _ _ _ _ h => h))))))) l st S I h
def tr_J4_fixAfterInsertion_204 (d : Nat) (Rq : SmQ) (l : SmL) (st : List SmV) (S : SmS) (I : SmI) : Prop :=
  im_aload 1 l st S I fun l st S I =>
  im_aload 1 l st S I fun l st S I =>
  im_p_J4_parentOf d l st S I fun l st S I =>
  im_p_J4_leftOf d l st S I fun l st S I =>
  im_acmpne l st S I (fun l st S I =>
  SW mi_J4_fixAfterInsertion 225 d Rq l st S I) (fun l st S I =>
  im_aload 1 l st S I fun l st S I =>
  im_p_J4_parentOf d l st S I fun l st S I =>
  im_astore 1 l st S I fun l st S I =>
  im_aload 0 l st S I fun l st S I =>
  im_aload 1 l st S I fun l st S I =>
  im_callV 1 13 mi_J4_rotateRight d (retK mi_J4_fixAfterInsertion 222 225 d Rq l) st S I)
theorem rv_J4_fixAfterInsertion_204 {d : Nat} {Rq : SmQ} {l : SmL} {st : List SmV} {S : SmS} {I : SmI} (h : tr_J4_fixAfterInsertion_204 d Rq l st S I) : SW mi_J4_fixAfterInsertion 204 d Rq l st S I :=
  (show SmW mi_J4_fixAfterInsertion 204 d Rq (tr_J4_fixAfterInsertion_204 d Rq) from
  (xv_aload_n dJ4_fixAfterInsertion_204 rfl
  (xv_aload_n dJ4_fixAfterInsertion_205 rfl
  (xv_p_J4_parentOf dJ4_fixAfterInsertion_206 (lw_S q1141 q1142 q111 q1143)
  (xv_p_J4_leftOf dJ4_fixAfterInsertion_209 (lw_S q1144 q1145 q111 q1146)
  (xv_acmpne dJ4_fixAfterInsertion_212 rfl
  (fun _ _ _ _ h => h)
  (xv_aload_n dJ4_fixAfterInsertion_215 rfl
  (xv_p_J4_parentOf dJ4_fixAfterInsertion_216 (lw_S q1141 q1142 q111 q1143)
  (xv_astore_n dJ4_fixAfterInsertion_219 rfl (Nat.le_of_ble_eq_true rfl)
  (xv_aload_n dJ4_fixAfterInsertion_220 rfl
  (xv_aload_n dJ4_fixAfterInsertion_221 rfl
  (xv_callV dJ4_fixAfterInsertion_222 cl_13 tg_13 ok_J4_rotateRight rfl (lw_V q1160 q1162 qs36 q111 q1163))))))))))))) l st S I h
def tr_J4_fixAfterInsertion_225 (d : Nat) (Rq : SmQ) (l : SmL) (st : List SmV) (S : SmS) (I : SmI) : Prop :=
  im_aload 1 l st S I fun l st S I =>
  im_p_J4_parentOf d l st S I fun l st S I =>
  im_ic 1 l st S I fun l st S I =>
  im_callS 2 mi_J4_setColor d (retK mi_J4_fixAfterInsertion 230 233 d Rq l) st S I
theorem rv_J4_fixAfterInsertion_225 {d : Nat} {Rq : SmQ} {l : SmL} {st : List SmV} {S : SmS} {I : SmI} (h : tr_J4_fixAfterInsertion_225 d Rq l st S I) : SW mi_J4_fixAfterInsertion 225 d Rq l st S I :=
  (show SmW mi_J4_fixAfterInsertion 225 d Rq (tr_J4_fixAfterInsertion_225 d Rq) from
  (xv_aload_n dJ4_fixAfterInsertion_225 rfl
  (xv_p_J4_parentOf dJ4_fixAfterInsertion_226 (lw_S q1141 q1142 q111 q1143)
  (xv_iconst dJ4_fixAfterInsertion_229 rfl (inRd rfl)
  (xv_callS dJ4_fixAfterInsertion_230 ok_J4_setColor (lw_S q1153 q1154 q111 q1155)))))) l st S I h
def tr_J4_fixAfterInsertion_233 (d : Nat) (Rq : SmQ) (l : SmL) (st : List SmV) (S : SmS) (I : SmI) : Prop :=
  im_aload 1 l st S I fun l st S I =>
  im_p_J4_parentOf d l st S I fun l st S I =>
  im_p_J4_parentOf d l st S I fun l st S I =>
  im_ic 0 l st S I fun l st S I =>
  im_callS 2 mi_J4_setColor d (retK mi_J4_fixAfterInsertion 241 244 d Rq l) st S I
theorem rv_J4_fixAfterInsertion_233 {d : Nat} {Rq : SmQ} {l : SmL} {st : List SmV} {S : SmS} {I : SmI} (h : tr_J4_fixAfterInsertion_233 d Rq l st S I) : SW mi_J4_fixAfterInsertion 233 d Rq l st S I :=
  (show SmW mi_J4_fixAfterInsertion 233 d Rq (tr_J4_fixAfterInsertion_233 d Rq) from
  (xv_aload_n dJ4_fixAfterInsertion_233 rfl
  (xv_p_J4_parentOf dJ4_fixAfterInsertion_234 (lw_S q1141 q1142 q111 q1143)
  (xv_p_J4_parentOf dJ4_fixAfterInsertion_237 (lw_S q1141 q1142 q111 q1143)
  (xv_iconst dJ4_fixAfterInsertion_240 rfl (inRd rfl)
  (xv_callS dJ4_fixAfterInsertion_241 ok_J4_setColor (lw_S q1153 q1154 q111 q1155))))))) l st S I h
def tr_J4_fixAfterInsertion_244 (d : Nat) (Rq : SmQ) (l : SmL) (st : List SmV) (S : SmS) (I : SmI) : Prop :=
  im_aload 0 l st S I fun l st S I =>
  im_aload 1 l st S I fun l st S I =>
  im_p_J4_parentOf d l st S I fun l st S I =>
  im_p_J4_parentOf d l st S I fun l st S I =>
  im_callV 1 13 mi_J4_rotateLeft d (retK mi_J4_fixAfterInsertion 252 255 d Rq l) st S I
theorem rv_J4_fixAfterInsertion_244 {d : Nat} {Rq : SmQ} {l : SmL} {st : List SmV} {S : SmS} {I : SmI} (h : tr_J4_fixAfterInsertion_244 d Rq l st S I) : SW mi_J4_fixAfterInsertion 244 d Rq l st S I :=
  (show SmW mi_J4_fixAfterInsertion 244 d Rq (tr_J4_fixAfterInsertion_244 d Rq) from
  (xv_aload_n dJ4_fixAfterInsertion_244 rfl
  (xv_aload_n dJ4_fixAfterInsertion_245 rfl
  (xv_p_J4_parentOf dJ4_fixAfterInsertion_246 (lw_S q1141 q1142 q111 q1143)
  (xv_p_J4_parentOf dJ4_fixAfterInsertion_249 (lw_S q1141 q1142 q111 q1143)
  (xv_callV dJ4_fixAfterInsertion_252 cl_13 tg_13 ok_J4_rotateLeft rfl (lw_V q1156 q1158 qs35 q111 q1159))))))) l st S I h
def tr_J4_fixAfterInsertion_255 (d : Nat) (Rq : SmQ) (l : SmL) (st : List SmV) (S : SmS) (I : SmI) : Prop :=
  SW mi_J4_fixAfterInsertion 5 d Rq l st S I
theorem rv_J4_fixAfterInsertion_255 {d : Nat} {Rq : SmQ} {l : SmL} {st : List SmV} {S : SmS} {I : SmI} (h : tr_J4_fixAfterInsertion_255 d Rq l st S I) : SW mi_J4_fixAfterInsertion 255 d Rq l st S I :=
  (show SmW mi_J4_fixAfterInsertion 255 d Rq (tr_J4_fixAfterInsertion_255 d Rq) from
  (xv_goto dJ4_fixAfterInsertion_255 rfl (fun _ _ _ _ h => h))) l st S I h
def tr_J4_fixAfterInsertion_258 (d : Nat) (Rq : SmQ) (l : SmL) (st : List SmV) (S : SmS) (I : SmI) : Prop :=
  im_aload 0 l st S I fun l st S I =>
  im_getR 13 3 l st S I fun l st S I =>
  im_ic 1 l st S I fun l st S I =>
  im_putZ 14 5 l st S I fun l st S I =>
  im_return Rq l st S I
theorem rv_J4_fixAfterInsertion_258 {d : Nat} {Rq : SmQ} {l : SmL} {st : List SmV} {S : SmS} {I : SmI} (h : tr_J4_fixAfterInsertion_258 d Rq l st S I) : SW mi_J4_fixAfterInsertion 258 d Rq l st S I :=
  (show SmW mi_J4_fixAfterInsertion 258 d Rq (tr_J4_fixAfterInsertion_258 d Rq) from
  (xv_aload_n dJ4_fixAfterInsertion_258 rfl
  (xv_getR (k := 3) dJ4_fixAfterInsertion_259 cl_13 tg_13 in_J4 (Nat.le_of_ble_eq_true rfl) rfl q1411
  (xv_iconst dJ4_fixAfterInsertion_262 rfl (inRd rfl)
  (xv_putZ (k := 5) dJ4_fixAfterInsertion_263 cl_14 tg_14 in_J21 tyJ21_ok nmJ21 (Nat.le_of_ble_eq_true rfl) rfl ⟨Or.inl q1114, Or.inl rfl⟩
  (xv_return dJ4_fixAfterInsertion_266 rfl)))))) l st S I h
def tr_J4_addEntry_0 (d : Nat) (Rq : SmQ) (l : SmL) (st : List SmV) (S : SmS) (I : SmI) : Prop :=
  im_new 14 6 l st S I fun l st S I =>
  im_dup l st S I fun l st S I =>
  im_aload 1 l st S I fun l st S I =>
  im_aload 2 l st S I fun l st S I =>
  im_aload 3 l st S I fun l st S I =>
  im_callV 3 14 mi_J21_init d (retK mi_J4_addEntry 7 10 d Rq l) st S I
theorem rv_J4_addEntry_0 {d : Nat} {Rq : SmQ} {l : SmL} {st : List SmV} {S : SmS} {I : SmI} (h : tr_J4_addEntry_0 d Rq l st S I) : SW mi_J4_addEntry 0 d Rq l st S I :=
  (show SmW mi_J4_addEntry 0 d Rq (tr_J4_addEntry_0 d Rq) from
  (xv_new dJ4_addEntry_0 cl_14 tg_14 in_J21 tyJ21_ok q1098 q1099 q139 df_14
  (xv_dup dJ4_addEntry_3
  (xv_aload_n dJ4_addEntry_4 rfl
  (xv_aload_n dJ4_addEntry_5 rfl
  (xv_aload_n dJ4_addEntry_6 rfl
  (xv_callI dJ4_addEntry_7 tg_14 ok_J21_init rfl rfl q1100 q1101 q139 q1102))))))) l st S I h
def tr_J4_addEntry_10 (d : Nat) (Rq : SmQ) (l : SmL) (st : List SmV) (S : SmS) (I : SmI) : Prop :=
  im_astore 5 l st S I fun l st S I =>
  im_iload 4 l st S I fun l st S I =>
  im_zeq l st S I (fun l st S I =>
  im_aload 3 l st S I fun l st S I =>
  im_aload 5 l st S I fun l st S I =>
  im_putR 14 3 l st S I fun l st S I =>
  im_aload 0 l st S I fun l st S I =>
  im_aload 5 l st S I fun l st S I =>
  im_callV 1 13 mi_J4_fixAfterInsertion d (retK mi_J4_addEntry 35 38 d Rq l) st S I) (fun l st S I =>
  im_aload 3 l st S I fun l st S I =>
  im_aload 5 l st S I fun l st S I =>
  im_putR 14 2 l st S I fun l st S I =>
  im_aload 0 l st S I fun l st S I =>
  im_aload 5 l st S I fun l st S I =>
  im_callV 1 13 mi_J4_fixAfterInsertion d (retK mi_J4_addEntry 35 38 d Rq l) st S I)
theorem rv_J4_addEntry_10 {d : Nat} {Rq : SmQ} {l : SmL} {st : List SmV} {S : SmS} {I : SmI} (h : tr_J4_addEntry_10 d Rq l st S I) : SW mi_J4_addEntry 10 d Rq l st S I :=
  (show SmW mi_J4_addEntry 10 d Rq (tr_J4_addEntry_10 d Rq) from
  (xv_astore dJ4_addEntry_10 (Nat.le_of_ble_eq_true rfl)
  (xv_iload dJ4_addEntry_12
  (xv_zeq dJ4_addEntry_14 rfl
  (xv_aload_n dJ4_addEntry_26 rfl
  (xv_aload dJ4_addEntry_27
  (xv_putR (k := 3) dJ4_addEntry_29 cl_14 tg_14 in_J21 tyJ21_ok nmJ21 (Nat.le_of_ble_eq_true rfl) rfl ⟨Or.inl q1110, Or.inl rfl⟩
  (xv_aload_n dJ4_addEntry_32 rfl
  (xv_aload dJ4_addEntry_33
  (xv_callV dJ4_addEntry_35 cl_13 tg_13 ok_J4_fixAfterInsertion rfl (lw_V q1137 q1139 qs34 q111 q1140)))))))
  (xv_aload_n dJ4_addEntry_17 rfl
  (xv_aload dJ4_addEntry_18
  (xv_putR (k := 2) dJ4_addEntry_20 cl_14 tg_14 in_J21 tyJ21_ok nmJ21 (Nat.le_of_ble_eq_true rfl) rfl ⟨Or.inl q1109, Or.inl rfl⟩
  (xv_goto dJ4_addEntry_23 rfl (xv_aload_n dJ4_addEntry_32 rfl
  (xv_aload dJ4_addEntry_33
  (xv_callV dJ4_addEntry_35 cl_13 tg_13 ok_J4_fixAfterInsertion rfl (lw_V q1137 q1139 qs34 q111 q1140)))))))))))) l st S I h
def tr_J4_addEntry_38 (d : Nat) (Rq : SmQ) (l : SmL) (st : List SmV) (S : SmS) (I : SmI) : Prop :=
  im_aload 0 l st S I fun l st S I =>
  im_dup l st S I fun l st S I =>
  im_getI 13 4 l st S I fun l st S I =>
  im_ic 1 l st S I fun l st S I =>
  im_iadd l st S I fun l st S I =>
  im_putI 13 4 l st S I fun l st S I =>
  im_aload 0 l st S I fun l st S I =>
  im_dup l st S I fun l st S I =>
  im_getI 13 5 l st S I fun l st S I =>
  im_ic 1 l st S I fun l st S I =>
  im_iadd l st S I fun l st S I =>
  im_putI 13 5 l st S I fun l st S I =>
  im_return Rq l st S I
theorem rv_J4_addEntry_38 {d : Nat} {Rq : SmQ} {l : SmL} {st : List SmV} {S : SmS} {I : SmI} (h : tr_J4_addEntry_38 d Rq l st S I) : SW mi_J4_addEntry 38 d Rq l st S I :=
  (show SmW mi_J4_addEntry 38 d Rq (tr_J4_addEntry_38 d Rq) from
  (xv_aload_n dJ4_addEntry_38 rfl
  (xv_dup dJ4_addEntry_39
  (xv_getI (k := 4) dJ4_addEntry_40 cl_13 tg_13 in_J4 (Nat.le_of_ble_eq_true rfl) rfl q1412
  (xv_iconst dJ4_addEntry_43 rfl (inRd rfl)
  (xv_iadd dJ4_addEntry_44
  (xv_putI (k := 4) dJ4_addEntry_45 cl_13 tg_13 in_J4 tyJ4_ok nmJ4 (Nat.le_of_ble_eq_true rfl) rfl ⟨Or.inl q1412, Or.inl rfl⟩
  (xv_aload_n dJ4_addEntry_48 rfl
  (xv_dup dJ4_addEntry_49
  (xv_getI (k := 5) dJ4_addEntry_50 cl_13 tg_13 in_J4 (Nat.le_of_ble_eq_true rfl) rfl q1413
  (xv_iconst dJ4_addEntry_53 rfl (inRd rfl)
  (xv_iadd dJ4_addEntry_54
  (xv_putI (k := 5) dJ4_addEntry_55 cl_13 tg_13 in_J4 tyJ4_ok nmJ4 (Nat.le_of_ble_eq_true rfl) rfl ⟨Or.inl q1413, Or.inl rfl⟩
  (xv_return dJ4_addEntry_58 rfl)))))))))))))) l st S I h
def tr_J4_addEntryToEmptyMap_0 (d : Nat) (Rq : SmQ) (l : SmL) (st : List SmV) (S : SmS) (I : SmI) : Prop :=
  im_aload 0 l st S I fun l st S I =>
  im_aload 1 l st S I fun l st S I =>
  im_aload 1 l st S I fun l st S I =>
  im_callV 2 13 mi_J4_compare d (retK mi_J4_addEntryToEmptyMap 3 6 d Rq l) st S I
theorem rv_J4_addEntryToEmptyMap_0 {d : Nat} {Rq : SmQ} {l : SmL} {st : List SmV} {S : SmS} {I : SmI} (h : tr_J4_addEntryToEmptyMap_0 d Rq l st S I) : SW mi_J4_addEntryToEmptyMap 0 d Rq l st S I :=
  (show SmW mi_J4_addEntryToEmptyMap 0 d Rq (tr_J4_addEntryToEmptyMap_0 d Rq) from
  (xv_aload_n dJ4_addEntryToEmptyMap_0 rfl
  (xv_aload_n dJ4_addEntryToEmptyMap_1 rfl
  (xv_aload_n dJ4_addEntryToEmptyMap_2 rfl
  (xv_callV dJ4_addEntryToEmptyMap_3 cl_13 tg_13 ok_J4_compare rfl (lw_V q1089 q1090 q1091 q111 q1092)))))) l st S I h
def tr_J4_addEntryToEmptyMap_6 (d : Nat) (Rq : SmQ) (l : SmL) (st : List SmV) (S : SmS) (I : SmI) : Prop :=
  im_pop l st S I fun l st S I =>
  im_aload 0 l st S I fun l st S I =>
  im_new 14 6 l st S I fun l st S I =>
  im_dup l st S I fun l st S I =>
  im_aload 1 l st S I fun l st S I =>
  im_aload 2 l st S I fun l st S I =>
  im_nul l st S I fun l st S I =>
  im_callV 3 14 mi_J21_init d (retK mi_J4_addEntryToEmptyMap 15 18 d Rq l) st S I
theorem rv_J4_addEntryToEmptyMap_6 {d : Nat} {Rq : SmQ} {l : SmL} {st : List SmV} {S : SmS} {I : SmI} (h : tr_J4_addEntryToEmptyMap_6 d Rq l st S I) : SW mi_J4_addEntryToEmptyMap 6 d Rq l st S I :=
  (show SmW mi_J4_addEntryToEmptyMap 6 d Rq (tr_J4_addEntryToEmptyMap_6 d Rq) from
  (xv_pop dJ4_addEntryToEmptyMap_6
  (xv_aload_n dJ4_addEntryToEmptyMap_7 rfl
  (xv_new dJ4_addEntryToEmptyMap_8 cl_14 tg_14 in_J21 tyJ21_ok q1098 q1099 q139 df_14
  (xv_dup dJ4_addEntryToEmptyMap_11
  (xv_aload_n dJ4_addEntryToEmptyMap_12 rfl
  (xv_aload_n dJ4_addEntryToEmptyMap_13 rfl
  (xv_nul dJ4_addEntryToEmptyMap_14
  (xv_callI dJ4_addEntryToEmptyMap_15 tg_14 ok_J21_init rfl rfl q1100 q1101 q139 q1102))))))))) l st S I h
def tr_J4_addEntryToEmptyMap_18 (d : Nat) (Rq : SmQ) (l : SmL) (st : List SmV) (S : SmS) (I : SmI) : Prop :=
  im_putR 13 3 l st S I fun l st S I =>
  im_aload 0 l st S I fun l st S I =>
  im_ic 1 l st S I fun l st S I =>
  im_putI 13 4 l st S I fun l st S I =>
  im_aload 0 l st S I fun l st S I =>
  im_dup l st S I fun l st S I =>
  im_getI 13 5 l st S I fun l st S I =>
  im_ic 1 l st S I fun l st S I =>
  im_iadd l st S I fun l st S I =>
  im_putI 13 5 l st S I fun l st S I =>
  im_return Rq l st S I
theorem rv_J4_addEntryToEmptyMap_18 {d : Nat} {Rq : SmQ} {l : SmL} {st : List SmV} {S : SmS} {I : SmI} (h : tr_J4_addEntryToEmptyMap_18 d Rq l st S I) : SW mi_J4_addEntryToEmptyMap 18 d Rq l st S I :=
  (show SmW mi_J4_addEntryToEmptyMap 18 d Rq (tr_J4_addEntryToEmptyMap_18 d Rq) from
  (xv_putR (k := 3) dJ4_addEntryToEmptyMap_18 cl_13 tg_13 in_J4 tyJ4_ok nmJ4 (Nat.le_of_ble_eq_true rfl) rfl ⟨Or.inl q1411, Or.inl rfl⟩
  (xv_aload_n dJ4_addEntryToEmptyMap_21 rfl
  (xv_iconst dJ4_addEntryToEmptyMap_22 rfl (inRd rfl)
  (xv_putI (k := 4) dJ4_addEntryToEmptyMap_23 cl_13 tg_13 in_J4 tyJ4_ok nmJ4 (Nat.le_of_ble_eq_true rfl) rfl ⟨Or.inl q1412, Or.inl rfl⟩
  (xv_aload_n dJ4_addEntryToEmptyMap_26 rfl
  (xv_dup dJ4_addEntryToEmptyMap_27
  (xv_getI (k := 5) dJ4_addEntryToEmptyMap_28 cl_13 tg_13 in_J4 (Nat.le_of_ble_eq_true rfl) rfl q1413
  (xv_iconst dJ4_addEntryToEmptyMap_31 rfl (inRd rfl)
  (xv_iadd dJ4_addEntryToEmptyMap_32
  (xv_putI (k := 5) dJ4_addEntryToEmptyMap_33 cl_13 tg_13 in_J4 tyJ4_ok nmJ4 (Nat.le_of_ble_eq_true rfl) rfl ⟨Or.inl q1413, Or.inl rfl⟩
  (xv_return dJ4_addEntryToEmptyMap_36 rfl)))))))))))) l st S I h
def tr_J4_compare_0 (d : Nat) (Rq : SmQ) (l : SmL) (st : List SmV) (S : SmS) (I : SmI) : Prop :=
  im_aload 0 l st S I fun l st S I =>
  im_getR 13 2 l st S I fun l st S I =>
  im_ifnn l st S I (fun l st S I =>
  im_aload 0 l st S I fun l st S I =>
  im_getR 13 2 l st S I fun l st S I =>
  im_aload 1 l st S I fun l st S I =>
  im_aload 2 l st S I fun l st S I =>
  im_callV 2 10 mi_X3_compare d (retK mi_J4_compare 26 31 d Rq l) st S I) (fun l st S I =>
  im_aload 1 l st S I fun l st S I =>
  im_castO [8] l st S I fun l st S I =>
  im_aload 2 l st S I fun l st S I =>
  im_callV 1 8 mi_X10_compareTo d (retK mi_J4_compare 12 17 d Rq l) st S I)
theorem rv_J4_compare_0 {d : Nat} {Rq : SmQ} {l : SmL} {st : List SmV} {S : SmS} {I : SmI} (h : tr_J4_compare_0 d Rq l st S I) : SW mi_J4_compare 0 d Rq l st S I :=
  (show SmW mi_J4_compare 0 d Rq (tr_J4_compare_0 d Rq) from
  (xv_aload_n dJ4_compare_0 rfl
  (xv_getR (k := 2) dJ4_compare_1 cl_13 tg_13 in_J4 (Nat.le_of_ble_eq_true rfl) rfl q1410
  (xv_ifnn dJ4_compare_4 rfl
  (xv_aload_n dJ4_compare_20 rfl
  (xv_getR (k := 2) dJ4_compare_21 cl_13 tg_13 in_J4 (Nat.le_of_ble_eq_true rfl) rfl q1410
  (xv_aload_n dJ4_compare_24 rfl
  (xv_aload_n dJ4_compare_25 rfl
  (xv_callF (x := ⟨"java/util/Comparator", "compare", "(Ljava/lang/Object;Ljava/lang/Object;)I"⟩) (J := "java/util/Comparator") dJ4_compare_26 cl_10 tg_10 ok_X3_compare ⟨⟨by decide, by decide⟩, by decide +kernel⟩ ⟨Or.inl (lw_at lw_m5 34 rfl), q837, Or.inl q836, q839, q841, q842, q840, q838, q114, q843, Or.inl rfl⟩)))))
  (xv_aload_n dJ4_compare_7 rfl
  (xv_castO dJ4_compare_8 q1093 (fun t h => by cases List.mem_singleton.mp h; exact ⟨_, _, _, ⟨(Nat.le_of_ble_eq_true rfl), (Nat.le_of_ble_eq_true rfl)⟩, cl_8, Or.inr q860⟩)
  (xv_aload_n dJ4_compare_11 rfl
  (xv_callF (x := ⟨"java/lang/Comparable", "compareTo", "(Ljava/lang/Object;)I"⟩) (J := "java/lang/Comparable") dJ4_compare_12 cl_8 tg_8 ok_X10_compareTo ⟨⟨by decide, by decide⟩, by decide +kernel⟩ ⟨Or.inl (lw_at lw_m5 32 rfl), q859, Or.inl q858, q861, q863, q864, q862, q860, q138, q865, Or.inl rfl⟩)))))))) l st S I h
def tr_J4_compare_17 (d : Nat) (Rq : SmQ) (l : SmL) (st : List SmV) (S : SmS) (I : SmI) : Prop :=
  SW mi_J4_compare 31 d Rq l st S I
theorem rv_J4_compare_17 {d : Nat} {Rq : SmQ} {l : SmL} {st : List SmV} {S : SmS} {I : SmI} (h : tr_J4_compare_17 d Rq l st S I) : SW mi_J4_compare 17 d Rq l st S I :=
  (show SmW mi_J4_compare 17 d Rq (tr_J4_compare_17 d Rq) from
  (xv_goto dJ4_compare_17 rfl (fun _ _ _ _ h => h))) l st S I h
def tr_J4_compare_31 (d : Nat) (Rq : SmQ) (l : SmL) (st : List SmV) (S : SmS) (I : SmI) : Prop :=
  im_ireturn Rq l st S I
theorem rv_J4_compare_31 {d : Nat} {Rq : SmQ} {l : SmL} {st : List SmV} {S : SmS} {I : SmI} (h : tr_J4_compare_31 d Rq l st S I) : SW mi_J4_compare 31 d Rq l st S I :=
  (show SmW mi_J4_compare 31 d Rq (tr_J4_compare_31 d Rq) from
  (xv_ireturn dJ4_compare_31 rfl)) l st S I h
def tr_J4_put_0 (d : Nat) (Rq : SmQ) (l : SmL) (st : List SmV) (S : SmS) (I : SmI) : Prop :=
  im_aload 0 l st S I fun l st S I =>
  im_aload 1 l st S I fun l st S I =>
  im_aload 2 l st S I fun l st S I =>
  im_ic 1 l st S I fun l st S I =>
  im_callV 3 13 mi_J4_put_2 d (retK mi_J4_put 4 7 d Rq l) st S I
theorem rv_J4_put_0 {d : Nat} {Rq : SmQ} {l : SmL} {st : List SmV} {S : SmS} {I : SmI} (h : tr_J4_put_0 d Rq l st S I) : SW mi_J4_put 0 d Rq l st S I :=
  (show SmW mi_J4_put 0 d Rq (tr_J4_put_0 d Rq) from
  (xv_aload_n dJ4_put_0 rfl
  (xv_aload_n dJ4_put_1 rfl
  (xv_aload_n dJ4_put_2 rfl
  (xv_iconst dJ4_put_3 rfl (inRd rfl)
  (xv_callV dJ4_put_4 cl_13 tg_13 ok_J4_put_2 rfl (lw_V q1080 q1082 qs31 q111 q1084))))))) l st S I h
def tr_J4_put_7 (d : Nat) (Rq : SmQ) (l : SmL) (st : List SmV) (S : SmS) (I : SmI) : Prop :=
  im_areturn Rq l st S I
theorem rv_J4_put_7 {d : Nat} {Rq : SmQ} {l : SmL} {st : List SmV} {S : SmS} {I : SmI} (h : tr_J4_put_7 d Rq l st S I) : SW mi_J4_put 7 d Rq l st S I :=
  (show SmW mi_J4_put 7 d Rq (tr_J4_put_7 d Rq) from
  (xv_areturn dJ4_put_7 rfl rfl)) l st S I h
def tr_J4_put_2_0 (d : Nat) (Rq : SmQ) (l : SmL) (st : List SmV) (S : SmS) (I : SmI) : Prop :=
  im_aload 0 l st S I fun l st S I =>
  im_getR 13 3 l st S I fun l st S I =>
  im_astore 4 l st S I fun l st S I =>
  im_aload 4 l st S I fun l st S I =>
  im_ifnn l st S I (fun l st S I =>
  im_aload 0 l st S I fun l st S I =>
  im_getR 13 2 l st S I fun l st S I =>
  im_astore 7 l st S I fun l st S I =>
  im_aload 7 l st S I fun l st S I =>
  im_ifnull l st S I (fun l st S I =>
  im_aload 1 l st S I fun l st S I =>
  im_callS 1 mi_J22_requireNonNull d (retK mi_J4_put_2 113 116 d Rq l) st S I) (fun l st S I =>
  SW mi_J4_put_2 30 d Rq l st S I)) (fun l st S I =>
  im_aload 0 l st S I fun l st S I =>
  im_aload 1 l st S I fun l st S I =>
  im_aload 2 l st S I fun l st S I =>
  im_callV 2 13 mi_J4_addEntryToEmptyMap d (retK mi_J4_put_2 14 17 d Rq l) st S I)
theorem rv_J4_put_2_0 {d : Nat} {Rq : SmQ} {l : SmL} {st : List SmV} {S : SmS} {I : SmI} (h : tr_J4_put_2_0 d Rq l st S I) : SW mi_J4_put_2 0 d Rq l st S I :=
  (show SmW mi_J4_put_2 0 d Rq (tr_J4_put_2_0 d Rq) from
  (xv_aload_n dJ4_put_2_0 rfl
  (xv_getR (k := 3) dJ4_put_2_1 cl_13 tg_13 in_J4 (Nat.le_of_ble_eq_true rfl) rfl q1411
  (xv_astore dJ4_put_2_4 (Nat.le_of_ble_eq_true rfl)
  (xv_aload dJ4_put_2_6
  (xv_ifnn dJ4_put_2_8 rfl
  (xv_aload_n dJ4_put_2_19 rfl
  (xv_getR (k := 2) dJ4_put_2_20 cl_13 tg_13 in_J4 (Nat.le_of_ble_eq_true rfl) rfl q1410
  (xv_astore dJ4_put_2_23 (Nat.le_of_ble_eq_true rfl)
  (xv_aload dJ4_put_2_25
  (xv_ifnull dJ4_put_2_27 rfl
  (xv_aload_n dJ4_put_2_112 rfl
  (xv_callS dJ4_put_2_113 ok_J22_requireNonNull (lw_S q1128 q1129 q140 q1130)))
  (fun _ _ _ _ h => h))))))
  (xv_aload_n dJ4_put_2_11 rfl
  (xv_aload_n dJ4_put_2_12 rfl
  (xv_aload_n dJ4_put_2_13 rfl
  (xv_callV dJ4_put_2_14 cl_13 tg_13 ok_J4_addEntryToEmptyMap rfl (lw_V q1085 q1087 qs32 q111 q1088))))))))))) l st S I h
def tr_J4_put_2_17 (d : Nat) (Rq : SmQ) (l : SmL) (st : List SmV) (S : SmS) (I : SmI) : Prop :=
  im_nul l st S I fun l st S I =>
  im_areturn Rq l st S I
theorem rv_J4_put_2_17 {d : Nat} {Rq : SmQ} {l : SmL} {st : List SmV} {S : SmS} {I : SmI} (h : tr_J4_put_2_17 d Rq l st S I) : SW mi_J4_put_2 17 d Rq l st S I :=
  (show SmW mi_J4_put_2 17 d Rq (tr_J4_put_2_17 d Rq) from
  (xv_nul dJ4_put_2_17
  (xv_areturn dJ4_put_2_18 rfl rfl))) l st S I h
def tr_J4_put_2_30 (d : Nat) (Rq : SmQ) (l : SmL) (st : List SmV) (S : SmS) (I : SmI) : Prop :=
  im_aload 4 l st S I fun l st S I =>
  im_astore 6 l st S I fun l st S I =>
  im_aload 7 l st S I fun l st S I =>
  im_aload 1 l st S I fun l st S I =>
  im_aload 4 l st S I fun l st S I =>
  im_getR 14 0 l st S I fun l st S I =>
  im_callV 2 10 mi_X3_compare d (retK mi_J4_put_2 42 47 d Rq l) st S I
theorem rv_J4_put_2_30 {d : Nat} {Rq : SmQ} {l : SmL} {st : List SmV} {S : SmS} {I : SmI} (h : tr_J4_put_2_30 d Rq l st S I) : SW mi_J4_put_2 30 d Rq l st S I :=
  (show SmW mi_J4_put_2 30 d Rq (tr_J4_put_2_30 d Rq) from
  (xv_aload dJ4_put_2_30
  (xv_astore dJ4_put_2_32 (Nat.le_of_ble_eq_true rfl)
  (xv_aload dJ4_put_2_34
  (xv_aload_n dJ4_put_2_36 rfl
  (xv_aload dJ4_put_2_37
  (xv_getR (k := 0) dJ4_put_2_39 cl_14 tg_14 in_J21 (Nat.le_of_ble_eq_true rfl) rfl q1106
  (xv_callF (x := ⟨"java/util/Comparator", "compare", "(Ljava/lang/Object;Ljava/lang/Object;)I"⟩) (J := "java/util/Comparator") dJ4_put_2_42 cl_10 tg_10 ok_X3_compare ⟨⟨by decide, by decide⟩, by decide +kernel⟩ ⟨Or.inl (lw_at lw_m5 34 rfl), q837, Or.inl q836, q839, q841, q842, q840, q838, q114, q843, Or.inl rfl⟩)))))))) l st S I h
def tr_J4_put_2_47 (d : Nat) (Rq : SmQ) (l : SmL) (st : List SmV) (S : SmS) (I : SmI) : Prop :=
  im_istore 5 l st S I fun l st S I =>
  im_iload 5 l st S I fun l st S I =>
  im_zge l st S I (fun l st S I =>
  im_iload 5 l st S I fun l st S I =>
  im_zle l st S I (fun l st S I =>
  im_aload 4 l st S I fun l st S I =>
  im_getR 14 1 l st S I fun l st S I =>
  im_astore 8 l st S I fun l st S I =>
  im_iload 3 l st S I fun l st S I =>
  im_zne l st S I (fun l st S I =>
  im_aload 4 l st S I fun l st S I =>
  im_aload 2 l st S I fun l st S I =>
  im_putR 14 1 l st S I fun l st S I =>
  im_aload 8 l st S I fun l st S I =>
  im_areturn Rq l st S I) (fun l st S I =>
  im_aload 8 l st S I fun l st S I =>
  im_ifnn l st S I (fun l st S I =>
  im_aload 8 l st S I fun l st S I =>
  im_areturn Rq l st S I) (fun l st S I =>
  im_aload 4 l st S I fun l st S I =>
  im_aload 2 l st S I fun l st S I =>
  im_putR 14 1 l st S I fun l st S I =>
  im_aload 8 l st S I fun l st S I =>
  im_areturn Rq l st S I))) (fun l st S I =>
  im_aload 4 l st S I fun l st S I =>
  im_getR 14 3 l st S I fun l st S I =>
  im_astore 4 l st S I fun l st S I =>
  im_aload 4 l st S I fun l st S I =>
  im_ifnn l st S I (fun l st S I =>
  SW mi_J4_put_2 30 d Rq l st S I) (fun l st S I =>
  SW mi_J4_put_2 201 d Rq l st S I))) (fun l st S I =>
  im_aload 4 l st S I fun l st S I =>
  im_getR 14 2 l st S I fun l st S I =>
  im_astore 4 l st S I fun l st S I =>
  im_aload 4 l st S I fun l st S I =>
  im_ifnn l st S I (fun l st S I =>
  SW mi_J4_put_2 30 d Rq l st S I) (fun l st S I =>
  SW mi_J4_put_2 201 d Rq l st S I))
theorem rv_J4_put_2_47 {d : Nat} {Rq : SmQ} {l : SmL} {st : List SmV} {S : SmS} {I : SmI} (h : tr_J4_put_2_47 d Rq l st S I) : SW mi_J4_put_2 47 d Rq l st S I :=
  (show SmW mi_J4_put_2 47 d Rq (tr_J4_put_2_47 d Rq) from
  (xv_istore dJ4_put_2_47 (Nat.le_of_ble_eq_true rfl)
  (xv_iload dJ4_put_2_49
  (xv_zge dJ4_put_2_51 rfl
  (xv_iload dJ4_put_2_64
  (xv_zle dJ4_put_2_66 rfl
  (xv_aload dJ4_put_2_79
  (xv_getR (k := 1) dJ4_put_2_81 cl_14 tg_14 in_J21 (Nat.le_of_ble_eq_true rfl) rfl q1108
  (xv_astore dJ4_put_2_84 (Nat.le_of_ble_eq_true rfl)
  (xv_iload_n dJ4_put_2_86 rfl
  (xv_zne dJ4_put_2_87 rfl
  (xv_aload dJ4_put_2_95
  (xv_aload_n dJ4_put_2_97 rfl
  (xv_putR (k := 1) dJ4_put_2_98 cl_14 tg_14 in_J21 tyJ21_ok nmJ21 (Nat.le_of_ble_eq_true rfl) rfl ⟨Or.inl q1108, Or.inl rfl⟩
  (xv_aload dJ4_put_2_101
  (xv_areturn dJ4_put_2_103 rfl rfl)))))
  (xv_aload dJ4_put_2_90
  (xv_ifnn dJ4_put_2_92 rfl
  (xv_aload dJ4_put_2_101
  (xv_areturn dJ4_put_2_103 rfl rfl))
  (xv_aload dJ4_put_2_95
  (xv_aload_n dJ4_put_2_97 rfl
  (xv_putR (k := 1) dJ4_put_2_98 cl_14 tg_14 in_J21 tyJ21_ok nmJ21 (Nat.le_of_ble_eq_true rfl) rfl ⟨Or.inl q1108, Or.inl rfl⟩
  (xv_aload dJ4_put_2_101
  (xv_areturn dJ4_put_2_103 rfl rfl))))))))))))
  (xv_aload dJ4_put_2_69
  (xv_getR (k := 3) dJ4_put_2_71 cl_14 tg_14 in_J21 (Nat.le_of_ble_eq_true rfl) rfl q1110
  (xv_astore dJ4_put_2_74 (Nat.le_of_ble_eq_true rfl)
  (xv_goto dJ4_put_2_76 rfl (xv_aload dJ4_put_2_104
  (xv_ifnn dJ4_put_2_106 rfl
  (fun _ _ _ _ h => h)
  (xv_goto dJ4_put_2_109 rfl (fun _ _ _ _ h => h))))))))))
  (xv_aload dJ4_put_2_54
  (xv_getR (k := 2) dJ4_put_2_56 cl_14 tg_14 in_J21 (Nat.le_of_ble_eq_true rfl) rfl q1109
  (xv_astore dJ4_put_2_59 (Nat.le_of_ble_eq_true rfl)
  (xv_goto dJ4_put_2_61 rfl (xv_aload dJ4_put_2_104
  (xv_ifnn dJ4_put_2_106 rfl
  (fun _ _ _ _ h => h)
  (xv_goto dJ4_put_2_109 rfl (fun _ _ _ _ h => h)))))))))))) l st S I h
def tr_J4_put_2_116 (d : Nat) (Rq : SmQ) (l : SmL) (st : List SmV) (S : SmS) (I : SmI) : Prop :=
  im_pop l st S I fun l st S I =>
  im_aload 1 l st S I fun l st S I =>
  im_castO [8] l st S I fun l st S I =>
  im_astore 8 l st S I fun l st S I =>
  SW mi_J4_put_2 123 d Rq l st S I
theorem rv_J4_put_2_116 {d : Nat} {Rq : SmQ} {l : SmL} {st : List SmV} {S : SmS} {I : SmI} (h : tr_J4_put_2_116 d Rq l st S I) : SW mi_J4_put_2 116 d Rq l st S I :=
  (show SmW mi_J4_put_2 116 d Rq (tr_J4_put_2_116 d Rq) from
  (xv_pop dJ4_put_2_116
  (xv_aload_n dJ4_put_2_117 rfl
  (xv_castO dJ4_put_2_118 q1093 (fun t h => by cases List.mem_singleton.mp h; exact ⟨_, _, _, ⟨(Nat.le_of_ble_eq_true rfl), (Nat.le_of_ble_eq_true rfl)⟩, cl_8, Or.inr q860⟩)
  (xv_astore dJ4_put_2_121 (Nat.le_of_ble_eq_true rfl)
  (fun _ _ _ _ h => h)))))) l st S I h
def tr_J4_put_2_123 (d : Nat) (Rq : SmQ) (l : SmL) (st : List SmV) (S : SmS) (I : SmI) : Prop :=
  im_aload 4 l st S I fun l st S I =>
  im_astore 6 l st S I fun l st S I =>
  im_aload 8 l st S I fun l st S I =>
  im_aload 4 l st S I fun l st S I =>
  im_getR 14 0 l st S I fun l st S I =>
  im_callV 1 8 mi_X10_compareTo d (retK mi_J4_put_2 134 139 d Rq l) st S I
theorem rv_J4_put_2_123 {d : Nat} {Rq : SmQ} {l : SmL} {st : List SmV} {S : SmS} {I : SmI} (h : tr_J4_put_2_123 d Rq l st S I) : SW mi_J4_put_2 123 d Rq l st S I :=
  (show SmW mi_J4_put_2 123 d Rq (tr_J4_put_2_123 d Rq) from
  (xv_aload dJ4_put_2_123
  (xv_astore dJ4_put_2_125 (Nat.le_of_ble_eq_true rfl)
  (xv_aload dJ4_put_2_127
  (xv_aload dJ4_put_2_129
  (xv_getR (k := 0) dJ4_put_2_131 cl_14 tg_14 in_J21 (Nat.le_of_ble_eq_true rfl) rfl q1106
  (xv_callF (x := ⟨"java/lang/Comparable", "compareTo", "(Ljava/lang/Object;)I"⟩) (J := "java/lang/Comparable") dJ4_put_2_134 cl_8 tg_8 ok_X10_compareTo ⟨⟨by decide, by decide⟩, by decide +kernel⟩ ⟨Or.inl (lw_at lw_m5 32 rfl), q859, Or.inl q858, q861, q863, q864, q862, q860, q138, q865, Or.inl rfl⟩))))))) l st S I h
def tr_J4_put_2_139 (d : Nat) (Rq : SmQ) (l : SmL) (st : List SmV) (S : SmS) (I : SmI) : Prop :=
  im_istore 5 l st S I fun l st S I =>
  im_iload 5 l st S I fun l st S I =>
  im_zge l st S I (fun l st S I =>
  im_iload 5 l st S I fun l st S I =>
  im_zle l st S I (fun l st S I =>
  im_aload 4 l st S I fun l st S I =>
  im_getR 14 1 l st S I fun l st S I =>
  im_astore 9 l st S I fun l st S I =>
  im_iload 3 l st S I fun l st S I =>
  im_zne l st S I (fun l st S I =>
  im_aload 4 l st S I fun l st S I =>
  im_aload 2 l st S I fun l st S I =>
  im_putR 14 1 l st S I fun l st S I =>
  im_aload 9 l st S I fun l st S I =>
  im_areturn Rq l st S I) (fun l st S I =>
  im_aload 9 l st S I fun l st S I =>
  im_ifnn l st S I (fun l st S I =>
  im_aload 9 l st S I fun l st S I =>
  im_areturn Rq l st S I) (fun l st S I =>
  im_aload 4 l st S I fun l st S I =>
  im_aload 2 l st S I fun l st S I =>
  im_putR 14 1 l st S I fun l st S I =>
  im_aload 9 l st S I fun l st S I =>
  im_areturn Rq l st S I))) (fun l st S I =>
  im_aload 4 l st S I fun l st S I =>
  im_getR 14 3 l st S I fun l st S I =>
  im_astore 4 l st S I fun l st S I =>
  im_aload 4 l st S I fun l st S I =>
  im_ifnn l st S I (fun l st S I =>
  SW mi_J4_put_2 123 d Rq l st S I) (fun l st S I =>
  SW mi_J4_put_2 201 d Rq l st S I))) (fun l st S I =>
  im_aload 4 l st S I fun l st S I =>
  im_getR 14 2 l st S I fun l st S I =>
  im_astore 4 l st S I fun l st S I =>
  im_aload 4 l st S I fun l st S I =>
  im_ifnn l st S I (fun l st S I =>
  SW mi_J4_put_2 123 d Rq l st S I) (fun l st S I =>
  SW mi_J4_put_2 201 d Rq l st S I))
theorem rv_J4_put_2_139 {d : Nat} {Rq : SmQ} {l : SmL} {st : List SmV} {S : SmS} {I : SmI} (h : tr_J4_put_2_139 d Rq l st S I) : SW mi_J4_put_2 139 d Rq l st S I :=
  (show SmW mi_J4_put_2 139 d Rq (tr_J4_put_2_139 d Rq) from
  (xv_istore dJ4_put_2_139 (Nat.le_of_ble_eq_true rfl)
  (xv_iload dJ4_put_2_141
  (xv_zge dJ4_put_2_143 rfl
  (xv_iload dJ4_put_2_156
  (xv_zle dJ4_put_2_158 rfl
  (xv_aload dJ4_put_2_171
  (xv_getR (k := 1) dJ4_put_2_173 cl_14 tg_14 in_J21 (Nat.le_of_ble_eq_true rfl) rfl q1108
  (xv_astore dJ4_put_2_176 (Nat.le_of_ble_eq_true rfl)
  (xv_iload_n dJ4_put_2_178 rfl
  (xv_zne dJ4_put_2_179 rfl
  (xv_aload dJ4_put_2_187
  (xv_aload_n dJ4_put_2_189 rfl
  (xv_putR (k := 1) dJ4_put_2_190 cl_14 tg_14 in_J21 tyJ21_ok nmJ21 (Nat.le_of_ble_eq_true rfl) rfl ⟨Or.inl q1108, Or.inl rfl⟩
  (xv_aload dJ4_put_2_193
  (xv_areturn dJ4_put_2_195 rfl rfl)))))
  (xv_aload dJ4_put_2_182
  (xv_ifnn dJ4_put_2_184 rfl
  (xv_aload dJ4_put_2_193
  (xv_areturn dJ4_put_2_195 rfl rfl))
  (xv_aload dJ4_put_2_187
  (xv_aload_n dJ4_put_2_189 rfl
  (xv_putR (k := 1) dJ4_put_2_190 cl_14 tg_14 in_J21 tyJ21_ok nmJ21 (Nat.le_of_ble_eq_true rfl) rfl ⟨Or.inl q1108, Or.inl rfl⟩
  (xv_aload dJ4_put_2_193
  (xv_areturn dJ4_put_2_195 rfl rfl))))))))))))
  (xv_aload dJ4_put_2_161
  (xv_getR (k := 3) dJ4_put_2_163 cl_14 tg_14 in_J21 (Nat.le_of_ble_eq_true rfl) rfl q1110
  (xv_astore dJ4_put_2_166 (Nat.le_of_ble_eq_true rfl)
  (xv_goto dJ4_put_2_168 rfl (xv_aload dJ4_put_2_196
  (xv_ifnn dJ4_put_2_198 rfl
  (fun _ _ _ _ h => h)
  (fun _ _ _ _ h => h)))))))))
  (xv_aload dJ4_put_2_146
  (xv_getR (k := 2) dJ4_put_2_148 cl_14 tg_14 in_J21 (Nat.le_of_ble_eq_true rfl) rfl q1109
  (xv_astore dJ4_put_2_151 (Nat.le_of_ble_eq_true rfl)
  (xv_goto dJ4_put_2_153 rfl (xv_aload dJ4_put_2_196
  (xv_ifnn dJ4_put_2_198 rfl
  (fun _ _ _ _ h => h)
  (fun _ _ _ _ h => h))))))))))) l st S I h
def tr_J4_put_2_201 (d : Nat) (Rq : SmQ) (l : SmL) (st : List SmV) (S : SmS) (I : SmI) : Prop :=
  im_aload 0 l st S I fun l st S I =>
  im_aload 1 l st S I fun l st S I =>
  im_aload 2 l st S I fun l st S I =>
  im_aload 6 l st S I fun l st S I =>
  im_iload 5 l st S I fun l st S I =>
  im_zge l st S I (fun l st S I =>
  im_ic 0 l st S I fun l st S I =>
  im_callV 4 13 mi_J4_addEntry d (retK mi_J4_put_2 216 219 d Rq l) st S I) (fun l st S I =>
  im_ic 1 l st S I fun l st S I =>
  im_callV 4 13 mi_J4_addEntry d (retK mi_J4_put_2 216 219 d Rq l) st S I)
theorem rv_J4_put_2_201 {d : Nat} {Rq : SmQ} {l : SmL} {st : List SmV} {S : SmS} {I : SmI} (h : tr_J4_put_2_201 d Rq l st S I) : SW mi_J4_put_2 201 d Rq l st S I :=
  (show SmW mi_J4_put_2 201 d Rq (tr_J4_put_2_201 d Rq) from
  (xv_aload_n dJ4_put_2_201 rfl
  (xv_aload_n dJ4_put_2_202 rfl
  (xv_aload_n dJ4_put_2_203 rfl
  (xv_aload dJ4_put_2_204
  (xv_iload dJ4_put_2_206
  (xv_zge dJ4_put_2_208 rfl
  (xv_iconst dJ4_put_2_215 rfl (inRd rfl)
  (xv_callV dJ4_put_2_216 cl_13 tg_13 ok_J4_addEntry rfl (lw_V q1133 q1135 qs33 q111 q1136)))
  (xv_iconst dJ4_put_2_211 rfl (inRd rfl)
  (xv_goto dJ4_put_2_212 rfl (xv_callV dJ4_put_2_216 cl_13 tg_13 ok_J4_addEntry rfl (lw_V q1133 q1135 qs33 q111 q1136))))))))))) l st S I h
def tr_J4_put_2_219 (d : Nat) (Rq : SmQ) (l : SmL) (st : List SmV) (S : SmS) (I : SmI) : Prop :=
  im_nul l st S I fun l st S I =>
  im_areturn Rq l st S I
theorem rv_J4_put_2_219 {d : Nat} {Rq : SmQ} {l : SmL} {st : List SmV} {S : SmS} {I : SmI} (h : tr_J4_put_2_219 d Rq l st S I) : SW mi_J4_put_2 219 d Rq l st S I :=
  (show SmW mi_J4_put_2 219 d Rq (tr_J4_put_2_219 d Rq) from
  (xv_nul dJ4_put_2_219
  (xv_areturn dJ4_put_2_220 rfl rfl))) l st S I h
def tr_J4_successor_0 (d : Nat) (Rq : SmQ) (l : SmL) (st : List SmV) (S : SmS) (I : SmI) : Prop :=
  im_aload 0 l st S I fun l st S I =>
  im_ifnn l st S I (fun l st S I =>
  im_aload 0 l st S I fun l st S I =>
  im_getR 14 3 l st S I fun l st S I =>
  im_ifnull l st S I (fun l st S I =>
  im_aload 0 l st S I fun l st S I =>
  im_getR 14 4 l st S I fun l st S I =>
  im_astore 1 l st S I fun l st S I =>
  im_aload 0 l st S I fun l st S I =>
  im_astore 2 l st S I fun l st S I =>
  SW mi_J4_successor 42 d Rq l st S I) (fun l st S I =>
  im_aload 0 l st S I fun l st S I =>
  im_getR 14 3 l st S I fun l st S I =>
  im_astore 1 l st S I fun l st S I =>
  SW mi_J4_successor 18 d Rq l st S I)) (fun l st S I =>
  im_nul l st S I fun l st S I =>
  im_areturn Rq l st S I)
theorem rv_J4_successor_0 {d : Nat} {Rq : SmQ} {l : SmL} {st : List SmV} {S : SmS} {I : SmI} (h : tr_J4_successor_0 d Rq l st S I) : SW mi_J4_successor 0 d Rq l st S I :=
  (show SmW mi_J4_successor 0 d Rq (tr_J4_successor_0 d Rq) from
  (xv_aload_n dJ4_successor_0 rfl
  (xv_ifnn dJ4_successor_1 rfl
  (xv_aload_n dJ4_successor_6 rfl
  (xv_getR (k := 3) dJ4_successor_7 cl_14 tg_14 in_J21 (Nat.le_of_ble_eq_true rfl) rfl q1110
  (xv_ifnull dJ4_successor_10 rfl
  (xv_aload_n dJ4_successor_35 rfl
  (xv_getR (k := 4) dJ4_successor_36 cl_14 tg_14 in_J21 (Nat.le_of_ble_eq_true rfl) rfl q1112
  (xv_astore_n dJ4_successor_39 rfl (Nat.le_of_ble_eq_true rfl)
  (xv_aload_n dJ4_successor_40 rfl
  (xv_astore_n dJ4_successor_41 rfl (Nat.le_of_ble_eq_true rfl)
  (fun _ _ _ _ h => h))))))
  (xv_aload_n dJ4_successor_13 rfl
  (xv_getR (k := 3) dJ4_successor_14 cl_14 tg_14 in_J21 (Nat.le_of_ble_eq_true rfl) rfl q1110
  (xv_astore_n dJ4_successor_17 rfl (Nat.le_of_ble_eq_true rfl)
  (fun _ _ _ _ h => h)))))))
  (xv_nul dJ4_successor_4
  (xv_areturn dJ4_successor_5 rfl rfl))))) l st S I h
def tr_J4_successor_18 (d : Nat) (Rq : SmQ) (l : SmL) (st : List SmV) (S : SmS) (I : SmI) : Prop :=
  im_aload 1 l st S I fun l st S I =>
  im_getR 14 2 l st S I fun l st S I =>
  im_ifnull l st S I (fun l st S I =>
  im_aload 1 l st S I fun l st S I =>
  im_areturn Rq l st S I) (fun l st S I =>
  im_aload 1 l st S I fun l st S I =>
  im_getR 14 2 l st S I fun l st S I =>
  im_astore 1 l st S I fun l st S I =>
  SW mi_J4_successor 18 d Rq l st S I)
theorem rv_J4_successor_18 {d : Nat} {Rq : SmQ} {l : SmL} {st : List SmV} {S : SmS} {I : SmI} (h : tr_J4_successor_18 d Rq l st S I) : SW mi_J4_successor 18 d Rq l st S I :=
  (show SmW mi_J4_successor 18 d Rq (tr_J4_successor_18 d Rq) from
  (xv_aload_n dJ4_successor_18 rfl
  (xv_getR (k := 2) dJ4_successor_19 cl_14 tg_14 in_J21 (Nat.le_of_ble_eq_true rfl) rfl q1109
  (xv_ifnull dJ4_successor_22 rfl
  (xv_aload_n dJ4_successor_33 rfl
  (xv_areturn dJ4_successor_34 rfl rfl))
  (xv_aload_n dJ4_successor_25 rfl
  (xv_getR (k := 2) dJ4_successor_26 cl_14 tg_14 in_J21 (Nat.le_of_ble_eq_true rfl) rfl q1109
  (xv_astore_n dJ4_successor_29 rfl (Nat.le_of_ble_eq_true rfl)
  (xv_goto dJ4_successor_30 rfl (fun _ _ _ _ h => h))))))))) l st S I h
def tr_J4_successor_42 (d : Nat) (Rq : SmQ) (l : SmL) (st : List SmV) (S : SmS) (I : SmI) : Prop :=
  im_aload 1 l st S I fun l st S I =>
  im_ifnull l st S I (fun l st S I =>
  im_aload 1 l st S I fun l st S I =>
  im_areturn Rq l st S I) (fun l st S I =>
  im_aload 2 l st S I fun l st S I =>
  im_aload 1 l st S I fun l st S I =>
  im_getR 14 3 l st S I fun l st S I =>
  im_acmpne l st S I (fun l st S I =>
  im_aload 1 l st S I fun l st S I =>
  im_areturn Rq l st S I) (fun l st S I =>
  im_aload 1 l st S I fun l st S I =>
  im_astore 2 l st S I fun l st S I =>
  im_aload 1 l st S I fun l st S I =>
  im_getR 14 4 l st S I fun l st S I =>
  im_astore 1 l st S I fun l st S I =>
  SW mi_J4_successor 42 d Rq l st S I))
theorem rv_J4_successor_42 {d : Nat} {Rq : SmQ} {l : SmL} {st : List SmV} {S : SmS} {I : SmI} (h : tr_J4_successor_42 d Rq l st S I) : SW mi_J4_successor 42 d Rq l st S I :=
  (show SmW mi_J4_successor 42 d Rq (tr_J4_successor_42 d Rq) from
  (xv_aload_n dJ4_successor_42 rfl
  (xv_ifnull dJ4_successor_43 rfl
  (xv_aload_n dJ4_successor_64 rfl
  (xv_areturn dJ4_successor_65 rfl rfl))
  (xv_aload_n dJ4_successor_46 rfl
  (xv_aload_n dJ4_successor_47 rfl
  (xv_getR (k := 3) dJ4_successor_48 cl_14 tg_14 in_J21 (Nat.le_of_ble_eq_true rfl) rfl q1110
  (xv_acmpne dJ4_successor_51 rfl
  (xv_aload_n dJ4_successor_64 rfl
  (xv_areturn dJ4_successor_65 rfl rfl))
  (xv_aload_n dJ4_successor_54 rfl
  (xv_astore_n dJ4_successor_55 rfl (Nat.le_of_ble_eq_true rfl)
  (xv_aload_n dJ4_successor_56 rfl
  (xv_getR (k := 4) dJ4_successor_57 cl_14 tg_14 in_J21 (Nat.le_of_ble_eq_true rfl) rfl q1112
  (xv_astore_n dJ4_successor_60 rfl (Nat.le_of_ble_eq_true rfl)
  (xv_goto dJ4_successor_61 rfl (fun _ _ _ _ h => h)))))))))))))) l st S I h
def tr_J4_getFirstEntry_0 (d : Nat) (Rq : SmQ) (l : SmL) (st : List SmV) (S : SmS) (I : SmI) : Prop :=
  im_aload 0 l st S I fun l st S I =>
  im_getR 13 3 l st S I fun l st S I =>
  im_astore 1 l st S I fun l st S I =>
  im_aload 1 l st S I fun l st S I =>
  im_ifnull l st S I (fun l st S I =>
  im_aload 1 l st S I fun l st S I =>
  im_areturn Rq l st S I) (fun l st S I =>
  SW mi_J4_getFirstEntry 9 d Rq l st S I)
theorem rv_J4_getFirstEntry_0 {d : Nat} {Rq : SmQ} {l : SmL} {st : List SmV} {S : SmS} {I : SmI} (h : tr_J4_getFirstEntry_0 d Rq l st S I) : SW mi_J4_getFirstEntry 0 d Rq l st S I :=
  (show SmW mi_J4_getFirstEntry 0 d Rq (tr_J4_getFirstEntry_0 d Rq) from
  (xv_aload_n dJ4_getFirstEntry_0 rfl
  (xv_getR (k := 3) dJ4_getFirstEntry_1 cl_13 tg_13 in_J4 (Nat.le_of_ble_eq_true rfl) rfl q1411
  (xv_astore_n dJ4_getFirstEntry_4 rfl (Nat.le_of_ble_eq_true rfl)
  (xv_aload_n dJ4_getFirstEntry_5 rfl
  (xv_ifnull dJ4_getFirstEntry_6 rfl
  (xv_aload_n dJ4_getFirstEntry_24 rfl
  (xv_areturn dJ4_getFirstEntry_25 rfl rfl))
  (fun _ _ _ _ h => h))))))) l st S I h
def tr_J4_getFirstEntry_9 (d : Nat) (Rq : SmQ) (l : SmL) (st : List SmV) (S : SmS) (I : SmI) : Prop :=
  im_aload 1 l st S I fun l st S I =>
  im_getR 14 2 l st S I fun l st S I =>
  im_ifnull l st S I (fun l st S I =>
  im_aload 1 l st S I fun l st S I =>
  im_areturn Rq l st S I) (fun l st S I =>
  im_aload 1 l st S I fun l st S I =>
  im_getR 14 2 l st S I fun l st S I =>
  im_astore 1 l st S I fun l st S I =>
  SW mi_J4_getFirstEntry 9 d Rq l st S I)
theorem rv_J4_getFirstEntry_9 {d : Nat} {Rq : SmQ} {l : SmL} {st : List SmV} {S : SmS} {I : SmI} (h : tr_J4_getFirstEntry_9 d Rq l st S I) : SW mi_J4_getFirstEntry 9 d Rq l st S I :=
  (show SmW mi_J4_getFirstEntry 9 d Rq (tr_J4_getFirstEntry_9 d Rq) from
  (xv_aload_n dJ4_getFirstEntry_9 rfl
  (xv_getR (k := 2) dJ4_getFirstEntry_10 cl_14 tg_14 in_J21 (Nat.le_of_ble_eq_true rfl) rfl q1109
  (xv_ifnull dJ4_getFirstEntry_13 rfl
  (xv_aload_n dJ4_getFirstEntry_24 rfl
  (xv_areturn dJ4_getFirstEntry_25 rfl rfl))
  (xv_aload_n dJ4_getFirstEntry_16 rfl
  (xv_getR (k := 2) dJ4_getFirstEntry_17 cl_14 tg_14 in_J21 (Nat.le_of_ble_eq_true rfl) rfl q1109
  (xv_astore_n dJ4_getFirstEntry_20 rfl (Nat.le_of_ble_eq_true rfl)
  (xv_goto dJ4_getFirstEntry_21 rfl (fun _ _ _ _ h => h))))))))) l st S I h
def tr_J4_size_0 (d : Nat) (Rq : SmQ) (l : SmL) (st : List SmV) (S : SmS) (I : SmI) : Prop :=
  im_aload 0 l st S I fun l st S I =>
  im_getI 13 4 l st S I fun l st S I =>
  im_ireturn Rq l st S I
theorem rv_J4_size_0 {d : Nat} {Rq : SmQ} {l : SmL} {st : List SmV} {S : SmS} {I : SmI} (h : tr_J4_size_0 d Rq l st S I) : SW mi_J4_size 0 d Rq l st S I :=
  (show SmW mi_J4_size 0 d Rq (tr_J4_size_0 d Rq) from
  (xv_aload_n dJ4_size_0 rfl
  (xv_getI (k := 4) dJ4_size_1 cl_13 tg_13 in_J4 (Nat.le_of_ble_eq_true rfl) rfl q1412
  (xv_ireturn dJ4_size_4 rfl)))) l st S I h
def tr_J4_clear_0 (d : Nat) (Rq : SmQ) (l : SmL) (st : List SmV) (S : SmS) (I : SmI) : Prop :=
  im_aload 0 l st S I fun l st S I =>
  im_dup l st S I fun l st S I =>
  im_getI 13 5 l st S I fun l st S I =>
  im_ic 1 l st S I fun l st S I =>
  im_iadd l st S I fun l st S I =>
  im_putI 13 5 l st S I fun l st S I =>
  im_aload 0 l st S I fun l st S I =>
  im_ic 0 l st S I fun l st S I =>
  im_putI 13 4 l st S I fun l st S I =>
  im_aload 0 l st S I fun l st S I =>
  im_nul l st S I fun l st S I =>
  im_putR 13 3 l st S I fun l st S I =>
  im_return Rq l st S I
theorem rv_J4_clear_0 {d : Nat} {Rq : SmQ} {l : SmL} {st : List SmV} {S : SmS} {I : SmI} (h : tr_J4_clear_0 d Rq l st S I) : SW mi_J4_clear 0 d Rq l st S I :=
  (show SmW mi_J4_clear 0 d Rq (tr_J4_clear_0 d Rq) from
  (xv_aload_n dJ4_clear_0 rfl
  (xv_dup dJ4_clear_1
  (xv_getI (k := 5) dJ4_clear_2 cl_13 tg_13 in_J4 (Nat.le_of_ble_eq_true rfl) rfl q1413
  (xv_iconst dJ4_clear_5 rfl (inRd rfl)
  (xv_iadd dJ4_clear_6
  (xv_putI (k := 5) dJ4_clear_7 cl_13 tg_13 in_J4 tyJ4_ok nmJ4 (Nat.le_of_ble_eq_true rfl) rfl ⟨Or.inl q1413, Or.inl rfl⟩
  (xv_aload_n dJ4_clear_10 rfl
  (xv_iconst dJ4_clear_11 rfl (inRd rfl)
  (xv_putI (k := 4) dJ4_clear_12 cl_13 tg_13 in_J4 tyJ4_ok nmJ4 (Nat.le_of_ble_eq_true rfl) rfl ⟨Or.inl q1412, Or.inl rfl⟩
  (xv_aload_n dJ4_clear_15 rfl
  (xv_nul dJ4_clear_16
  (xv_putR (k := 3) dJ4_clear_17 cl_13 tg_13 in_J4 tyJ4_ok nmJ4 (Nat.le_of_ble_eq_true rfl) rfl ⟨Or.inl q1411, Or.inl rfl⟩
  (xv_return dJ4_clear_20 rfl)))))))))))))) l st S I h
def tr_J4_comparator_0 (d : Nat) (Rq : SmQ) (l : SmL) (st : List SmV) (S : SmS) (I : SmI) : Prop :=
  im_aload 0 l st S I fun l st S I =>
  im_getR 13 2 l st S I fun l st S I =>
  im_areturn Rq l st S I
theorem rv_J4_comparator_0 {d : Nat} {Rq : SmQ} {l : SmL} {st : List SmV} {S : SmS} {I : SmI} (h : tr_J4_comparator_0 d Rq l st S I) : SW mi_J4_comparator 0 d Rq l st S I :=
  (show SmW mi_J4_comparator 0 d Rq (tr_J4_comparator_0 d Rq) from
  (xv_aload_n dJ4_comparator_0 rfl
  (xv_getR (k := 2) dJ4_comparator_1 cl_13 tg_13 in_J4 (Nat.le_of_ble_eq_true rfl) rfl q1410
  (xv_areturn dJ4_comparator_4 rfl rfl)))) l st S I h
def tr_J4_init_0 (d : Nat) (Rq : SmQ) (l : SmL) (st : List SmV) (S : SmS) (I : SmI) : Prop :=
  im_aload 0 l st S I fun l st S I =>
  im_callV 0 13 mi_J3_init d (retK mi_J4_init 1 4 d Rq l) st S I
theorem rv_J4_init_0 {d : Nat} {Rq : SmQ} {l : SmL} {st : List SmV} {S : SmS} {I : SmI} (h : tr_J4_init_0 d Rq l st S I) : SW mi_J4_init 0 d Rq l st S I :=
  (show SmW mi_J4_init 0 d Rq (tr_J4_init_0 d Rq) from
  (xv_aload_n dJ4_init_0 rfl
  (xv_callI dJ4_init_1 tg_13 ok_J3_init rfl rfl q1406 q1407 q110 q1408))) l st S I h
def tr_J4_init_4 (d : Nat) (Rq : SmQ) (l : SmL) (st : List SmV) (S : SmS) (I : SmI) : Prop :=
  im_aload 0 l st S I fun l st S I =>
  im_ic 0 l st S I fun l st S I =>
  im_putI 13 4 l st S I fun l st S I =>
  im_aload 0 l st S I fun l st S I =>
  im_ic 0 l st S I fun l st S I =>
  im_putI 13 5 l st S I fun l st S I =>
  im_aload 0 l st S I fun l st S I =>
  im_nul l st S I fun l st S I =>
  im_putR 13 2 l st S I fun l st S I =>
  im_return Rq l st S I
theorem rv_J4_init_4 {d : Nat} {Rq : SmQ} {l : SmL} {st : List SmV} {S : SmS} {I : SmI} (h : tr_J4_init_4 d Rq l st S I) : SW mi_J4_init 4 d Rq l st S I :=
  (show SmW mi_J4_init 4 d Rq (tr_J4_init_4 d Rq) from
  (xv_aload_n dJ4_init_4 rfl
  (xv_iconst dJ4_init_5 rfl (inRd rfl)
  (xv_putI (k := 4) dJ4_init_6 cl_13 tg_13 in_J4 tyJ4_ok nmJ4 (Nat.le_of_ble_eq_true rfl) rfl ⟨Or.inl q1412, Or.inl rfl⟩
  (xv_aload_n dJ4_init_9 rfl
  (xv_iconst dJ4_init_10 rfl (inRd rfl)
  (xv_putI (k := 5) dJ4_init_11 cl_13 tg_13 in_J4 tyJ4_ok nmJ4 (Nat.le_of_ble_eq_true rfl) rfl ⟨Or.inl q1413, Or.inl rfl⟩
  (xv_aload_n dJ4_init_14 rfl
  (xv_nul dJ4_init_15
  (xv_putR (k := 2) dJ4_init_16 cl_13 tg_13 in_J4 tyJ4_ok nmJ4 (Nat.le_of_ble_eq_true rfl) rfl ⟨Or.inl q1410, Or.inr ⟨rfl, rfl, rfl⟩⟩
  (xv_return dJ4_init_19 rfl))))))))))) l st S I h
def tr_J21_init_0 (d : Nat) (Rq : SmQ) (l : SmL) (st : List SmV) (S : SmS) (I : SmI) : Prop :=
  im_aload 0 l st S I fun l st S I =>
  im_objinit l st S I fun l st S I =>
  im_aload 0 l st S I fun l st S I =>
  im_ic 1 l st S I fun l st S I =>
  im_putZ 14 5 l st S I fun l st S I =>
  im_aload 0 l st S I fun l st S I =>
  im_aload 1 l st S I fun l st S I =>
  im_putR 14 0 l st S I fun l st S I =>
  im_aload 0 l st S I fun l st S I =>
  im_aload 2 l st S I fun l st S I =>
  im_putR 14 1 l st S I fun l st S I =>
  im_aload 0 l st S I fun l st S I =>
  im_aload 3 l st S I fun l st S I =>
  im_putR 14 4 l st S I fun l st S I =>
  im_return Rq l st S I
theorem rv_J21_init_0 {d : Nat} {Rq : SmQ} {l : SmL} {st : List SmV} {S : SmS} {I : SmI} (h : tr_J21_init_0 d Rq l st S I) : SW mi_J21_init 0 d Rq l st S I :=
  (show SmW mi_J21_init 0 d Rq (tr_J21_init_0 d Rq) from
  (xv_aload_n dJ21_init_0 rfl
  (xv_objinit dJ21_init_1 q1103 q177 q178
  (xv_aload_n dJ21_init_4 rfl
  (xv_iconst dJ21_init_5 rfl (inRd rfl)
  (xv_putZ (k := 5) dJ21_init_6 cl_14 tg_14 in_J21 tyJ21_ok nmJ21 (Nat.le_of_ble_eq_true rfl) rfl ⟨Or.inl q1113, Or.inl rfl⟩
  (xv_aload_n dJ21_init_9 rfl
  (xv_aload_n dJ21_init_10 rfl
  (xv_putR (k := 0) dJ21_init_11 cl_14 tg_14 in_J21 tyJ21_ok nmJ21 (Nat.le_of_ble_eq_true rfl) rfl ⟨Or.inl q1104, Or.inl rfl⟩
  (xv_aload_n dJ21_init_14 rfl
  (xv_aload_n dJ21_init_15 rfl
  (xv_putR (k := 1) dJ21_init_16 cl_14 tg_14 in_J21 tyJ21_ok nmJ21 (Nat.le_of_ble_eq_true rfl) rfl ⟨Or.inl q1107, Or.inl rfl⟩
  (xv_aload_n dJ21_init_19 rfl
  (xv_aload_n dJ21_init_20 rfl
  (xv_putR (k := 4) dJ21_init_21 cl_14 tg_14 in_J21 tyJ21_ok nmJ21 (Nat.le_of_ble_eq_true rfl) rfl ⟨Or.inl q1111, Or.inl rfl⟩
  (xv_return dJ21_init_24 rfl)))))))))))))))) l st S I h
def tr_J21_getKey_0 (d : Nat) (Rq : SmQ) (l : SmL) (st : List SmV) (S : SmS) (I : SmI) : Prop :=
  im_aload 0 l st S I fun l st S I =>
  im_getR 14 0 l st S I fun l st S I =>
  im_areturn Rq l st S I
theorem rv_J21_getKey_0 {d : Nat} {Rq : SmQ} {l : SmL} {st : List SmV} {S : SmS} {I : SmI} (h : tr_J21_getKey_0 d Rq l st S I) : SW mi_J21_getKey 0 d Rq l st S I :=
  (show SmW mi_J21_getKey 0 d Rq (tr_J21_getKey_0 d Rq) from
  (xv_aload_n dJ21_getKey_0 rfl
  (xv_getR (k := 0) dJ21_getKey_1 cl_14 tg_14 in_J21 (Nat.le_of_ble_eq_true rfl) rfl q1104
  (xv_areturn dJ21_getKey_4 rfl rfl)))) l st S I h
def tr_X10_init_0 (d : Nat) (Rq : SmQ) (l : SmL) (st : List SmV) (S : SmS) (I : SmI) : Prop :=
  im_aload 0 l st S I fun l st S I =>
  im_objinit l st S I fun l st S I =>
  im_aload 0 l st S I fun l st S I =>
  im_iload 1 l st S I fun l st S I =>
  im_putI 8 0 l st S I fun l st S I =>
  im_aload 0 l st S I fun l st S I =>
  im_iload 2 l st S I fun l st S I =>
  im_putI 8 1 l st S I fun l st S I =>
  im_aload 0 l st S I fun l st S I =>
  im_iload 3 l st S I fun l st S I =>
  im_putI 8 2 l st S I fun l st S I =>
  im_return Rq l st S I
theorem rv_X10_init_0 {d : Nat} {Rq : SmQ} {l : SmL} {st : List SmV} {S : SmS} {I : SmI} (h : tr_X10_init_0 d Rq l st S I) : SW mi_X10_init 0 d Rq l st S I :=
  (show SmW mi_X10_init 0 d Rq (tr_X10_init_0 d Rq) from
  (xv_aload_n dX10_init_0 rfl
  (xv_objinit dX10_init_1 q1052 q177 q178
  (xv_aload_n dX10_init_4 rfl
  (xv_iload_n dX10_init_5 rfl
  (xv_putI (k := 0) dX10_init_6 cl_8 tg_8 in_X10 tyX10_ok nmX10 (Nat.le_of_ble_eq_true rfl) rfl ⟨Or.inl q1053, Or.inr ⟨rfl, rfl, rfl⟩⟩
  (xv_aload_n dX10_init_9 rfl
  (xv_iload_n dX10_init_10 rfl
  (xv_putI (k := 1) dX10_init_11 cl_8 tg_8 in_X10 tyX10_ok nmX10 (Nat.le_of_ble_eq_true rfl) rfl ⟨Or.inl q1055, Or.inr ⟨rfl, rfl, rfl⟩⟩
  (xv_aload_n dX10_init_14 rfl
  (xv_iload_n dX10_init_15 rfl
  (xv_putI (k := 2) dX10_init_16 cl_8 tg_8 in_X10 tyX10_ok nmX10 (Nat.le_of_ble_eq_true rfl) rfl ⟨Or.inl q1057, Or.inr ⟨rfl, rfl, rfl⟩⟩
  (xv_return dX10_init_19 rfl))))))))))))) l st S I h
def tr_X10_compareTo_0 (d : Nat) (Rq : SmQ) (l : SmL) (st : List SmV) (S : SmS) (I : SmI) : Prop :=
  im_aload 0 l st S I fun l st S I =>
  im_aload 1 l st S I fun l st S I =>
  im_castO [8] l st S I fun l st S I =>
  im_callV 1 8 mi_X10_compareTo_2 d (retK mi_X10_compareTo 5 8 d Rq l) st S I
theorem rv_X10_compareTo_0 {d : Nat} {Rq : SmQ} {l : SmL} {st : List SmV} {S : SmS} {I : SmI} (h : tr_X10_compareTo_0 d Rq l st S I) : SW mi_X10_compareTo 0 d Rq l st S I :=
  (show SmW mi_X10_compareTo 0 d Rq (tr_X10_compareTo_0 d Rq) from
  (xv_aload_n dX10_compareTo_0 rfl
  (xv_aload_n dX10_compareTo_1 rfl
  (xv_castO dX10_compareTo_2 q866 (fun t h => by cases List.mem_singleton.mp h; exact ⟨_, _, _, ⟨(Nat.le_of_ble_eq_true rfl), (Nat.le_of_ble_eq_true rfl)⟩, cl_8, Or.inl rfl⟩)
  (xv_callV dX10_compareTo_5 cl_8 tg_8 ok_X10_compareTo_2 rfl (lw_V q867 q868 q869 q138 q870)))))) l st S I h
def tr_X10_compareTo_8 (d : Nat) (Rq : SmQ) (l : SmL) (st : List SmV) (S : SmS) (I : SmI) : Prop :=
  im_ireturn Rq l st S I
theorem rv_X10_compareTo_8 {d : Nat} {Rq : SmQ} {l : SmL} {st : List SmV} {S : SmS} {I : SmI} (h : tr_X10_compareTo_8 d Rq l st S I) : SW mi_X10_compareTo 8 d Rq l st S I :=
  (show SmW mi_X10_compareTo 8 d Rq (tr_X10_compareTo_8 d Rq) from
  (xv_ireturn dX10_compareTo_8 rfl)) l st S I h
def tr_X10_compareTo_2_0 (d : Nat) (Rq : SmQ) (l : SmL) (st : List SmV) (S : SmS) (I : SmI) : Prop :=
  im_aload 0 l st S I fun l st S I =>
  im_getI 8 0 l st S I fun l st S I =>
  im_aload 1 l st S I fun l st S I =>
  im_getI 8 0 l st S I fun l st S I =>
  im_ceq l st S I (fun l st S I =>
  im_aload 0 l st S I fun l st S I =>
  im_getI 8 1 l st S I fun l st S I =>
  im_aload 1 l st S I fun l st S I =>
  im_getI 8 1 l st S I fun l st S I =>
  im_callS 2 mi_J18_compare d (retK mi_X10_compareTo_2 33 36 d Rq l) st S I) (fun l st S I =>
  im_aload 0 l st S I fun l st S I =>
  im_getI 8 0 l st S I fun l st S I =>
  im_aload 1 l st S I fun l st S I =>
  im_getI 8 0 l st S I fun l st S I =>
  im_callS 2 mi_J18_compare d (retK mi_X10_compareTo_2 19 22 d Rq l) st S I)
theorem rv_X10_compareTo_2_0 {d : Nat} {Rq : SmQ} {l : SmL} {st : List SmV} {S : SmS} {I : SmI} (h : tr_X10_compareTo_2_0 d Rq l st S I) : SW mi_X10_compareTo_2 0 d Rq l st S I :=
  (show SmW mi_X10_compareTo_2 0 d Rq (tr_X10_compareTo_2_0 d Rq) from
  (xv_aload_n dX10_compareTo_2_0 rfl
  (xv_getI (k := 0) dX10_compareTo_2_1 cl_8 tg_8 in_X10 (Nat.le_of_ble_eq_true rfl) rfl q1053
  (xv_aload_n dX10_compareTo_2_4 rfl
  (xv_getI (k := 0) dX10_compareTo_2_5 cl_8 tg_8 in_X10 (Nat.le_of_ble_eq_true rfl) rfl q1053
  (xv_ceq dX10_compareTo_2_8 rfl
  (xv_aload_n dX10_compareTo_2_25 rfl
  (xv_getI (k := 1) dX10_compareTo_2_26 cl_8 tg_8 in_X10 (Nat.le_of_ble_eq_true rfl) rfl q1055
  (xv_aload_n dX10_compareTo_2_29 rfl
  (xv_getI (k := 1) dX10_compareTo_2_30 cl_8 tg_8 in_X10 (Nat.le_of_ble_eq_true rfl) rfl q1055
  (xv_callS dX10_compareTo_2_33 ok_J18_compare (lw_S q871 q850 q134 q851))))))
  (xv_aload_n dX10_compareTo_2_11 rfl
  (xv_getI (k := 0) dX10_compareTo_2_12 cl_8 tg_8 in_X10 (Nat.le_of_ble_eq_true rfl) rfl q1053
  (xv_aload_n dX10_compareTo_2_15 rfl
  (xv_getI (k := 0) dX10_compareTo_2_16 cl_8 tg_8 in_X10 (Nat.le_of_ble_eq_true rfl) rfl q1053
  (xv_callS dX10_compareTo_2_19 ok_J18_compare (lw_S q871 q850 q134 q851)))))))))))) l st S I h
def tr_X10_compareTo_2_22 (d : Nat) (Rq : SmQ) (l : SmL) (st : List SmV) (S : SmS) (I : SmI) : Prop :=
  SW mi_X10_compareTo_2 36 d Rq l st S I
theorem rv_X10_compareTo_2_22 {d : Nat} {Rq : SmQ} {l : SmL} {st : List SmV} {S : SmS} {I : SmI} (h : tr_X10_compareTo_2_22 d Rq l st S I) : SW mi_X10_compareTo_2 22 d Rq l st S I :=
  (show SmW mi_X10_compareTo_2 22 d Rq (tr_X10_compareTo_2_22 d Rq) from
  (xv_goto dX10_compareTo_2_22 rfl (fun _ _ _ _ h => h))) l st S I h
def tr_X10_compareTo_2_36 (d : Nat) (Rq : SmQ) (l : SmL) (st : List SmV) (S : SmS) (I : SmI) : Prop :=
  im_ireturn Rq l st S I
theorem rv_X10_compareTo_2_36 {d : Nat} {Rq : SmQ} {l : SmL} {st : List SmV} {S : SmS} {I : SmI} (h : tr_X10_compareTo_2_36 d Rq l st S I) : SW mi_X10_compareTo_2 36 d Rq l st S I :=
  (show SmW mi_X10_compareTo_2 36 d Rq (tr_X10_compareTo_2_36 d Rq) from
  (xv_ireturn dX10_compareTo_2_36 rfl)) l st S I h
def tr_J18_compare_0 (d : Nat) (Rq : SmQ) (l : SmL) (st : List SmV) (S : SmS) (I : SmI) : Prop :=
  im_iload 0 l st S I fun l st S I =>
  im_iload 1 l st S I fun l st S I =>
  im_cge l st S I (fun l st S I =>
  im_iload 0 l st S I fun l st S I =>
  im_iload 1 l st S I fun l st S I =>
  im_cne l st S I (fun l st S I =>
  im_ic 1 l st S I fun l st S I =>
  im_ireturn Rq l st S I) (fun l st S I =>
  im_ic 0 l st S I fun l st S I =>
  im_ireturn Rq l st S I)) (fun l st S I =>
  im_ic (-1) l st S I fun l st S I =>
  im_ireturn Rq l st S I)
theorem rv_J18_compare_0 {d : Nat} {Rq : SmQ} {l : SmL} {st : List SmV} {S : SmS} {I : SmI} (h : tr_J18_compare_0 d Rq l st S I) : SW mi_J18_compare 0 d Rq l st S I :=
  (show SmW mi_J18_compare 0 d Rq (tr_J18_compare_0 d Rq) from
  (xv_iload_n dJ18_compare_0 rfl
  (xv_iload_n dJ18_compare_1 rfl
  (xv_cge dJ18_compare_2 rfl
  (xv_iload_n dJ18_compare_9 rfl
  (xv_iload_n dJ18_compare_10 rfl
  (xv_cne dJ18_compare_11 rfl
  (xv_iconst dJ18_compare_18 rfl (inRd rfl)
  (xv_ireturn dJ18_compare_19 rfl))
  (xv_iconst dJ18_compare_14 rfl (inRd rfl)
  (xv_goto dJ18_compare_15 rfl (xv_ireturn dJ18_compare_19 rfl))))))
  (xv_iconst dJ18_compare_5 rfl (inRd rfl)
  (xv_goto dJ18_compare_6 rfl (xv_ireturn dJ18_compare_19 rfl))))))) l st S I h
