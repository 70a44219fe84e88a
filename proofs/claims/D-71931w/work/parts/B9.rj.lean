/-! regions of methods, printed by gen/regions.py -/
set_option maxRecDepth 100000
/- J0_init: cut at [0] -/
abbrev mi_J0_init : SmM := (yJ0_init, cJ0_init, 1, (none : Option FieldType), [])
theorem ok_J0_init : callOk mi_J0_init 0 := ⟨rfl, rfl, Nat.le_of_ble_eq_true rfl, by decide, by decide, by decide +kernel⟩
theorem ent_J0_init (x : Option Nat) : entL (mL mi_J0_init) [vR x] = [some (vR x)] := rfl
/- J0_addAll: cut at [0, 8, 9, 15, 24, 32] -/
abbrev mi_J0_addAll : SmM := (yJ0_addAll, cJ0_addAll, 5, (some FieldType.boolean : Option FieldType), [])
theorem ok_J0_addAll : callOk mi_J0_addAll 1 := ⟨rfl, rfl, Nat.le_of_ble_eq_true rfl, by decide, by decide, by decide +kernel⟩
theorem ent_J0_addAll (x : Option Nat) (x0 : Option Nat) : entL (mL mi_J0_addAll) [vR x, vR x0] = [some (vR x), some (vR x0), none, none, none] := rfl
/- J0_add: cut at [0, 7] -/
abbrev mi_J0_add : SmM := (yJ0_add, cJ0_add, 2, (some FieldType.boolean : Option FieldType), [])
theorem ok_J0_add : callOk mi_J0_add 1 := ⟨rfl, rfl, Nat.le_of_ble_eq_true rfl, by decide, by decide, by decide +kernel⟩
theorem ent_J0_add (x : Option Nat) (x0 : Option Nat) : entL (mL mi_J0_add) [vR x, vR x0] = [some (vR x), some (vR x0)] := rfl
/- J2_init: cut at [0, 8, 11] -/
abbrev mi_J2_init : SmM := (yJ2_init, cJ2_init, 1, (none : Option FieldType), [])
theorem ok_J2_init : callOk mi_J2_init 0 := ⟨rfl, rfl, Nat.le_of_ble_eq_true rfl, by decide, by decide, by decide +kernel⟩
theorem ent_J2_init (x : Option Nat) : entL (mL mi_J2_init) [vR x] = [some (vR x)] := rfl
/- J2_init_2: cut at [0, 4] -/
abbrev mi_J2_init_2 : SmM := (yJ2_init_2, cJ2_init_2, 2, (none : Option FieldType), [])
theorem ok_J2_init_2 : callOk mi_J2_init_2 1 := ⟨rfl, rfl, Nat.le_of_ble_eq_true rfl, by decide, by decide, by decide +kernel⟩
theorem ent_J2_init_2 (x : Option Nat) (x0 : Option Nat) : entL (mL mi_J2_init_2) [vR x, vR x0] = [some (vR x), some (vR x0)] := rfl
/- J2_addAll: cut at [0, 9, 18, 56, 60, 63, 74, 81] -/
abbrev mi_J2_addAll : SmM := (yJ2_addAll, cJ2_addAll, 4, (some FieldType.boolean : Option FieldType), [])
theorem ok_J2_addAll : callOk mi_J2_addAll 1 := ⟨rfl, rfl, Nat.le_of_ble_eq_true rfl, by decide, by decide, by decide +kernel⟩
theorem ent_J2_addAll (x : Option Nat) (x0 : Option Nat) : entL (mL mi_J2_addAll) [vR x, vR x0] = [some (vR x), some (vR x0), none, none] := rfl
/- J2_comparator: cut at [0, 9] -/
abbrev mi_J2_comparator : SmM := (yJ2_comparator, cJ2_comparator, 1, (some (FieldType.object "java/util/Comparator") : Option FieldType), [])
theorem ok_J2_comparator : callOk mi_J2_comparator 0 := ⟨rfl, rfl, Nat.le_of_ble_eq_true rfl, by decide, by decide, by decide +kernel⟩
theorem ent_J2_comparator (x : Option Nat) : entL (mL mi_J2_comparator) [vR x] = [some (vR x)] := rfl
/- J22_equals: cut at [0, 14] -/
abbrev mi_J22_equals : SmM := (yJ22_equals, cJ22_equals, 2, (some FieldType.boolean : Option FieldType), [])
theorem ok_J22_equals : callOk mi_J22_equals 2 := ⟨rfl, rfl, Nat.le_of_ble_eq_true rfl, by decide, by decide, by decide +kernel⟩
theorem ent_J22_equals (x0 : Option Nat) (x1 : Option Nat) : entL (mL mi_J22_equals) [vR x0, vR x1] = [some (vR x0), some (vR x1)] := rfl
/- J4_addAllForTreeSet: cut at [0, 7, 13, 18, 21] -/
abbrev mi_J4_addAllForTreeSet : SmM := (yJ4_addAllForTreeSet, cJ4_addAllForTreeSet, 4, (none : Option FieldType), [(0, 18, 21, 46), (0, 18, 21, 48)])
theorem ok_J4_addAllForTreeSet : callOkH mi_J4_addAllForTreeSet 2 := ⟨rfl, Nat.le_of_ble_eq_true rfl, by decide, by decide, by decide +kernel⟩
theorem ent_J4_addAllForTreeSet (x : Option Nat) (x0 : Option Nat) (x1 : Option Nat) : entL (mL mi_J4_addAllForTreeSet) [vR x, vR x0, vR x1] = [some (vR x), some (vR x0), some (vR x1), none] := rfl
/- J4_buildFromSorted: cut at [0, 16, 23] -/
abbrev mi_J4_buildFromSorted : SmM := (yJ4_buildFromSorted, cJ4_buildFromSorted, 5, (none : Option FieldType), [])
theorem ok_J4_buildFromSorted : callOk mi_J4_buildFromSorted 4 := ⟨rfl, rfl, Nat.le_of_ble_eq_true rfl, by decide, by decide, by decide +kernel⟩
theorem ent_J4_buildFromSorted (x : Option Nat) (x0 : Int) (x1 : Option Nat) (x2 : Option Nat) (x3 : Option Nat) : entL (mL mi_J4_buildFromSorted) [vR x, vI x0, vR x1, vR x2, vR x3] = [some (vR x), some (vI x0), some (vR x1), some (vR x2), some (vR x3)] := rfl
/- J4_buildFromSorted_2: cut at [0, 43, 45, 62, 74, 83, 95, 109, 126, 140, 154, 173, 199] -/
abbrev mi_J4_buildFromSorted_2 : SmM := (yJ4_buildFromSorted_2, cJ4_buildFromSorted_2, 14, (some (FieldType.object "java/util/TreeMap$Entry") : Option FieldType), [])
theorem ok_J4_buildFromSorted_2 : callOk mi_J4_buildFromSorted_2 7 := ⟨rfl, rfl, Nat.le_of_ble_eq_true rfl, by decide, by decide, by decide +kernel⟩
theorem ent_J4_buildFromSorted_2 (x : Option Nat) (x0 : Int) (x1 : Int) (x2 : Int) (x3 : Int) (x4 : Option Nat) (x5 : Option Nat) (x6 : Option Nat) : entL (mL mi_J4_buildFromSorted_2) [vR x, vI x0, vI x1, vI x2, vI x3, vR x4, vR x5, vR x6] = [some (vR x), some (vI x0), some (vI x1), some (vI x2), some (vI x3), some (vR x4), some (vR x5), some (vR x6), none, none, none, none, none, none] := rfl
/- J4_computeRedLevel: cut at [0, 8] -/
abbrev mi_J4_computeRedLevel : SmM := (yJ4_computeRedLevel, cJ4_computeRedLevel, 1, (some FieldType.int : Option FieldType), [])
theorem ok_J4_computeRedLevel : callOk mi_J4_computeRedLevel 1 := ⟨rfl, rfl, Nat.le_of_ble_eq_true rfl, by decide, by decide, by decide +kernel⟩
theorem ent_J4_computeRedLevel (x0 : Int) : entL (mL mi_J4_computeRedLevel) [vI x0] = [some (vI x0)] := rfl
/- J18_numberOfLeadingZeros: cut at [0, 33, 48, 61] -/
abbrev mi_J18_numberOfLeadingZeros : SmM := (yJ18_numberOfLeadingZeros, cJ18_numberOfLeadingZeros, 2, (some FieldType.int : Option FieldType), [])
theorem ok_J18_numberOfLeadingZeros : callOk mi_J18_numberOfLeadingZeros 1 := ⟨rfl, rfl, Nat.le_of_ble_eq_true rfl, by decide, by decide, by decide +kernel⟩
theorem ent_J18_numberOfLeadingZeros (x0 : Int) : entL (mL mi_J18_numberOfLeadingZeros) [vI x0] = [some (vI x0), none] := rfl
def tr_J0_init_0 (d : Nat) (Rq : SmQ) (l : SmL) (st : List SmV) (S : SmS) (I : SmI) : Prop :=
  im_aload 0 l st S I fun l st S I =>
  im_objinit l st S I fun l st S I =>
  im_return Rq l st S I
theorem rv_J0_init_0 {d : Nat} {Rq : SmQ} {l : SmL} {st : List SmV} {S : SmS} {I : SmI} (h : tr_J0_init_0 d Rq l st S I) : SW mi_J0_init 0 d Rq l st S I :=
  (show SmW mi_J0_init 0 d Rq (tr_J0_init_0 d Rq) from
  (xv_aload_n dJ0_init_0 rfl
  (xv_objinit dJ0_init_1 q1277 q177 q178
  (xv_return dJ0_init_4 rfl)))) l st S I h
def tr_J0_addAll_0 (d : Nat) (Rq : SmQ) (l : SmL) (st : List SmV) (S : SmS) (I : SmI) : Prop :=
  im_ic 0 l st S I fun l st S I =>
  im_istore 2 l st S I fun l st S I =>
  im_aload 1 l st S I fun l st S I =>
  im_callV 0 12 mi_J2_iterator d (retK mi_J0_addAll 3 8 d Rq l) st S I
theorem rv_J0_addAll_0 {d : Nat} {Rq : SmQ} {l : SmL} {st : List SmV} {S : SmS} {I : SmI} (h : tr_J0_addAll_0 d Rq l st S I) : SW mi_J0_addAll 0 d Rq l st S I :=
  (show SmW mi_J0_addAll 0 d Rq (tr_J0_addAll_0 d Rq) from
  (xv_iconst dJ0_addAll_0 rfl (inRd rfl)
  (xv_istore_n dJ0_addAll_1 rfl (Nat.le_of_ble_eq_true rfl)
  (xv_aload_n dJ0_addAll_2 rfl
  (xv_callF (x := ⟨"java/util/Collection", "iterator", "()Ljava/util/Iterator;"⟩) (J := "java/util/Collection") dJ0_addAll_3 cl_12 tg_12 ok_J2_iterator ⟨⟨by decide, by decide⟩, by decide +kernel⟩ ⟨Or.inl (lw_at lw_m7 32 rfl), q1577, Or.inl q1576, q1609, q1254, q1326, q1325, q1477, q109, q1256, Or.inl rfl⟩))))) l st S I h
def tr_J0_addAll_8 (d : Nat) (Rq : SmQ) (l : SmL) (st : List SmV) (S : SmS) (I : SmI) : Prop :=
  im_astore 3 l st S I fun l st S I =>
  SW mi_J0_addAll 9 d Rq l st S I
theorem rv_J0_addAll_8 {d : Nat} {Rq : SmQ} {l : SmL} {st : List SmV} {S : SmS} {I : SmI} (h : tr_J0_addAll_8 d Rq l st S I) : SW mi_J0_addAll 8 d Rq l st S I :=
  (show SmW mi_J0_addAll 8 d Rq (tr_J0_addAll_8 d Rq) from
  (xv_astore_n dJ0_addAll_8 rfl (Nat.le_of_ble_eq_true rfl)
  (fun _ _ _ _ h => h))) l st S I h
def tr_J0_addAll_9 (d : Nat) (Rq : SmQ) (l : SmL) (st : List SmV) (S : SmS) (I : SmI) : Prop :=
  im_aload 3 l st S I fun l st S I =>
  im_callV 0 16 mi_J25_hasNext d (retK mi_J0_addAll 10 15 d Rq l) st S I
theorem rv_J0_addAll_9 {d : Nat} {Rq : SmQ} {l : SmL} {st : List SmV} {S : SmS} {I : SmI} (h : tr_J0_addAll_9 d Rq l st S I) : SW mi_J0_addAll 9 d Rq l st S I :=
  (show SmW mi_J0_addAll 9 d Rq (tr_J0_addAll_9 d Rq) from
  (xv_aload_n dJ0_addAll_9 rfl
  (xv_callF (x := ⟨"java/util/Iterator", "hasNext", "()Z"⟩) (J := "java/util/Iterator") dJ0_addAll_10 cl_16 tg_16 ok_J25_hasNext ⟨⟨by decide, by decide⟩, by decide +kernel⟩ ⟨Or.inl (lw_at lw_m7 68 rfl), q1330, Or.inl q1329, q1342, q1344, q1345, q1343, q1341, q143, q1346, Or.inl rfl⟩))) l st S I h
def tr_J0_addAll_15 (d : Nat) (Rq : SmQ) (l : SmL) (st : List SmV) (S : SmS) (I : SmI) : Prop :=
  im_zeq l st S I (fun l st S I =>
  im_iload 2 l st S I fun l st S I =>
  im_zreturn Rq l st S I) (fun l st S I =>
  im_aload 3 l st S I fun l st S I =>
  im_callV 0 16 mi_J26_next d (retK mi_J0_addAll 19 24 d Rq l) st S I)
theorem rv_J0_addAll_15 {d : Nat} {Rq : SmQ} {l : SmL} {st : List SmV} {S : SmS} {I : SmI} (h : tr_J0_addAll_15 d Rq l st S I) : SW mi_J0_addAll 15 d Rq l st S I :=
  (show SmW mi_J0_addAll 15 d Rq (tr_J0_addAll_15 d Rq) from
  (xv_zeq dJ0_addAll_15 rfl
  (xv_iload_n dJ0_addAll_40 rfl
  (xv_zreturn dJ0_addAll_41 rfl))
  (xv_aload_n dJ0_addAll_18 rfl
  (xv_callF (x := ⟨"java/util/Iterator", "next", "()Ljava/lang/Object;"⟩) (J := "java/util/Iterator") dJ0_addAll_19 cl_16 tg_16 ok_J26_next ⟨⟨by decide, by decide⟩, by decide +kernel⟩ ⟨Or.inl (lw_at lw_m7 70 rfl), q1350, Or.inl q1349, q1370, q1372, q1373, q1371, q1341, q144, q1374, Or.inl rfl⟩)))) l st S I h
def tr_J0_addAll_24 (d : Nat) (Rq : SmQ) (l : SmL) (st : List SmV) (S : SmS) (I : SmI) : Prop :=
  im_astore 4 l st S I fun l st S I =>
  im_aload 0 l st S I fun l st S I =>
  im_aload 4 l st S I fun l st S I =>
  False
theorem rv_J0_addAll_24 {d : Nat} {Rq : SmQ} {l : SmL} {st : List SmV} {S : SmS} {I : SmI} (h : tr_J0_addAll_24 d Rq l st S I) : SW mi_J0_addAll 24 d Rq l st S I :=
  (show SmW mi_J0_addAll 24 d Rq (tr_J0_addAll_24 d Rq) from
  (xv_astore dJ0_addAll_24 (Nat.le_of_ble_eq_true rfl)
  (xv_aload_n dJ0_addAll_26 rfl
  (xv_aload dJ0_addAll_27
  (fun _ _ _ _ h => h.elim))))) l st S I h
def tr_J0_addAll_32 (d : Nat) (Rq : SmQ) (l : SmL) (st : List SmV) (S : SmS) (I : SmI) : Prop :=
  im_zeq l st S I (fun l st S I =>
  SW mi_J0_addAll 9 d Rq l st S I) (fun l st S I =>
  im_ic 1 l st S I fun l st S I =>
  im_istore 2 l st S I fun l st S I =>
  SW mi_J0_addAll 9 d Rq l st S I)
theorem rv_J0_addAll_32 {d : Nat} {Rq : SmQ} {l : SmL} {st : List SmV} {S : SmS} {I : SmI} (h : tr_J0_addAll_32 d Rq l st S I) : SW mi_J0_addAll 32 d Rq l st S I :=
  (show SmW mi_J0_addAll 32 d Rq (tr_J0_addAll_32 d Rq) from
  (xv_zeq dJ0_addAll_32 rfl
  (xv_goto dJ0_addAll_37 rfl (fun _ _ _ _ h => h))
  (xv_iconst dJ0_addAll_35 rfl (inRd rfl)
  (xv_istore_n dJ0_addAll_36 rfl (Nat.le_of_ble_eq_true rfl)
  (xv_goto dJ0_addAll_37 rfl (fun _ _ _ _ h => h)))))) l st S I h
def tr_J1_init_0 (d : Nat) (Rq : SmQ) (l : SmL) (st : List SmV) (S : SmS) (I : SmI) : Prop :=
  im_aload 0 l st S I fun l st S I =>
  im_callV 0 12 mi_J0_init d (retK mi_J1_init 1 4 d Rq l) st S I
theorem rv_J1_init_0 {d : Nat} {Rq : SmQ} {l : SmL} {st : List SmV} {S : SmS} {I : SmI} (h : tr_J1_init_0 d Rq l st S I) : SW mi_J1_init 0 d Rq l st S I :=
  (show SmW mi_J1_init 0 d Rq (tr_J1_init_0 d Rq) from
  (xv_aload_n dJ1_init_0 rfl
  (xv_callI dJ1_init_1 tg_12 ok_J0_init rfl rfl q1274 q1275 q107 q1276))) l st S I h
def tr_J1_init_4 (d : Nat) (Rq : SmQ) (l : SmL) (st : List SmV) (S : SmS) (I : SmI) : Prop :=
  im_return Rq l st S I
theorem rv_J1_init_4 {d : Nat} {Rq : SmQ} {l : SmL} {st : List SmV} {S : SmS} {I : SmI} (h : tr_J1_init_4 d Rq l st S I) : SW mi_J1_init 4 d Rq l st S I :=
  (show SmW mi_J1_init 4 d Rq (tr_J1_init_4 d Rq) from
  (xv_return dJ1_init_4 rfl)) l st S I h
def tr_J2_init_0 (d : Nat) (Rq : SmQ) (l : SmL) (st : List SmV) (S : SmS) (I : SmI) : Prop :=
  im_aload 0 l st S I fun l st S I =>
  im_new 13 9 l st S I fun l st S I =>
  im_dup l st S I fun l st S I =>
  im_callV 0 13 mi_J4_init d (retK mi_J2_init 5 8 d Rq l) st S I
theorem rv_J2_init_0 {d : Nat} {Rq : SmQ} {l : SmL} {st : List SmV} {S : SmS} {I : SmI} (h : tr_J2_init_0 d Rq l st S I) : SW mi_J2_init 0 d Rq l st S I :=
  (show SmW mi_J2_init 0 d Rq (tr_J2_init_0 d Rq) from
  (xv_aload_n dJ2_init_0 rfl
  (xv_new dJ2_init_1 cl_13 tg_13 in_J4 tyJ4_ok q1402 q1083 q111 df_13
  (xv_dup dJ2_init_4
  (xv_callI dJ2_init_5 tg_13 ok_J4_init rfl rfl q1403 q1404 q111 q1405))))) l st S I h
def tr_J2_init_8 (d : Nat) (Rq : SmQ) (l : SmL) (st : List SmV) (S : SmS) (I : SmI) : Prop :=
  im_callV 1 12 mi_J2_init_2 d (retK mi_J2_init 8 11 d Rq l) st S I
theorem rv_J2_init_8 {d : Nat} {Rq : SmQ} {l : SmL} {st : List SmV} {S : SmS} {I : SmI} (h : tr_J2_init_8 d Rq l st S I) : SW mi_J2_init 8 d Rq l st S I :=
  (show SmW mi_J2_init 8 d Rq (tr_J2_init_8 d Rq) from
  (xv_callI dJ2_init_8 tg_12 ok_J2_init_2 rfl rfl q1435 q1436 q109 q1437)) l st S I h
def tr_J2_init_11 (d : Nat) (Rq : SmQ) (l : SmL) (st : List SmV) (S : SmS) (I : SmI) : Prop :=
  im_return Rq l st S I
theorem rv_J2_init_11 {d : Nat} {Rq : SmQ} {l : SmL} {st : List SmV} {S : SmS} {I : SmI} (h : tr_J2_init_11 d Rq l st S I) : SW mi_J2_init 11 d Rq l st S I :=
  (show SmW mi_J2_init 11 d Rq (tr_J2_init_11 d Rq) from
  (xv_return dJ2_init_11 rfl)) l st S I h
def tr_J2_init_2_0 (d : Nat) (Rq : SmQ) (l : SmL) (st : List SmV) (S : SmS) (I : SmI) : Prop :=
  im_aload 0 l st S I fun l st S I =>
  im_callV 0 12 mi_J1_init d (retK mi_J2_init_2 1 4 d Rq l) st S I
theorem rv_J2_init_2_0 {d : Nat} {Rq : SmQ} {l : SmL} {st : List SmV} {S : SmS} {I : SmI} (h : tr_J2_init_2_0 d Rq l st S I) : SW mi_J2_init_2 0 d Rq l st S I :=
  (show SmW mi_J2_init_2 0 d Rq (tr_J2_init_2_0 d Rq) from
  (xv_aload_n dJ2_init_2_0 rfl
  (xv_callI dJ2_init_2_1 tg_12 ok_J1_init rfl rfl q1438 q1272 q108 q1273))) l st S I h
def tr_J2_init_2_4 (d : Nat) (Rq : SmQ) (l : SmL) (st : List SmV) (S : SmS) (I : SmI) : Prop :=
  im_aload 0 l st S I fun l st S I =>
  im_aload 1 l st S I fun l st S I =>
  im_putR 12 0 l st S I fun l st S I =>
  im_return Rq l st S I
theorem rv_J2_init_2_4 {d : Nat} {Rq : SmQ} {l : SmL} {st : List SmV} {S : SmS} {I : SmI} (h : tr_J2_init_2_4 d Rq l st S I) : SW mi_J2_init_2 4 d Rq l st S I :=
  (show SmW mi_J2_init_2 4 d Rq (tr_J2_init_2_4 d Rq) from
  (xv_aload_n dJ2_init_2_4 rfl
  (xv_aload_n dJ2_init_2_5 rfl
  (xv_putR (k := 0) dJ2_init_2_6 cl_12 tg_12 in_J2 tyJ2_ok nmJ2 (Nat.le_of_ble_eq_true rfl) rfl ⟨Or.inl q1439, Or.inl rfl⟩
  (xv_return dJ2_init_2_9 rfl))))) l st S I h
def tr_J2_addAll_0 (d : Nat) (Rq : SmQ) (l : SmL) (st : List SmV) (S : SmS) (I : SmI) : Prop :=
  im_aload 0 l st S I fun l st S I =>
  im_getR 12 0 l st S I fun l st S I =>
  im_callV 0 13 mi_J4_size d (retK mi_J2_addAll 4 9 d Rq l) st S I
theorem rv_J2_addAll_0 {d : Nat} {Rq : SmQ} {l : SmL} {st : List SmV} {S : SmS} {I : SmI} (h : tr_J2_addAll_0 d Rq l st S I) : SW mi_J2_addAll 0 d Rq l st S I :=
  (show SmW mi_J2_addAll 0 d Rq (tr_J2_addAll_0 d Rq) from
  (xv_aload_n dJ2_addAll_0 rfl
  (xv_getR (k := 0) dJ2_addAll_1 cl_12 tg_12 in_J2 (Nat.le_of_ble_eq_true rfl) rfl q1439
  (xv_callF (x := ⟨"java/util/NavigableMap", "size", "()I"⟩) (J := "java/util/Map") dJ2_addAll_4 cl_13 tg_13 ok_J4_size ⟨⟨by decide, by decide⟩, by decide +kernel⟩ ⟨Or.inr (List.mem_of_getElem? (i := 526) rfl), q590, Or.inr (List.mem_of_getElem? (i := 525) rfl), q591, q593, q594, q592, q551, q111, q595, Or.inr ⟨by decide, ⟨by decide, by decide⟩, q589⟩⟩)))) l st S I h
def tr_J2_addAll_9 (d : Nat) (Rq : SmQ) (l : SmL) (st : List SmV) (S : SmS) (I : SmI) : Prop :=
  im_zne l st S I (fun l st S I =>
  im_aload 0 l st S I fun l st S I =>
  im_aload 1 l st S I fun l st S I =>
  im_callV 1 12 mi_J0_addAll d (retK mi_J2_addAll 78 81 d Rq l) st S I) (fun l st S I =>
  im_aload 1 l st S I fun l st S I =>
  im_callV 0 12 mi_J2_size d (retK mi_J2_addAll 13 18 d Rq l) st S I)
theorem rv_J2_addAll_9 {d : Nat} {Rq : SmQ} {l : SmL} {st : List SmV} {S : SmS} {I : SmI} (h : tr_J2_addAll_9 d Rq l st S I) : SW mi_J2_addAll 9 d Rq l st S I :=
  (show SmW mi_J2_addAll 9 d Rq (tr_J2_addAll_9 d Rq) from
  (xv_zne dJ2_addAll_9 rfl
  (xv_aload_n dJ2_addAll_76 rfl
  (xv_aload_n dJ2_addAll_77 rfl
  (xv_callSU (x := ⟨"java/util/AbstractSet", "addAll", "(Ljava/util/Collection;)Z"⟩) dJ2_addAll_78 cl_12 tg_12 ok_J0_addAll rfl (by decide) ⟨q1568, q1569, q1442, q1571, q1572, q107, q1573⟩)))
  (xv_aload_n dJ2_addAll_12 rfl
  (xv_callF (x := ⟨"java/util/Collection", "size", "()I"⟩) (J := "java/util/Collection") dJ2_addAll_13 cl_12 tg_12 ok_J2_size ⟨⟨by decide, by decide⟩, by decide +kernel⟩ ⟨Or.inl (lw_at lw_m6 160 rfl), q1465, Or.inl q1464, q1478, q585, q1480, q1479, q1477, q109, q587, Or.inl rfl⟩)))) l st S I h
def tr_J2_addAll_18 (d : Nat) (Rq : SmQ) (l : SmL) (st : List SmV) (S : SmS) (I : SmI) : Prop :=
  im_zle l st S I (fun l st S I =>
  im_aload 0 l st S I fun l st S I =>
  im_aload 1 l st S I fun l st S I =>
  im_callV 1 12 mi_J0_addAll d (retK mi_J2_addAll 78 81 d Rq l) st S I) (fun l st S I =>
  im_aload 1 l st S I fun l st S I =>
  im_instO [12] l st S I fun l st S I =>
  im_zeq l st S I (fun l st S I =>
  im_aload 0 l st S I fun l st S I =>
  im_aload 1 l st S I fun l st S I =>
  im_callV 1 12 mi_J0_addAll d (retK mi_J2_addAll 78 81 d Rq l) st S I) (fun l st S I =>
  im_aload 0 l st S I fun l st S I =>
  im_getR 12 0 l st S I fun l st S I =>
  im_astore 3 l st S I fun l st S I =>
  im_aload 3 l st S I fun l st S I =>
  im_instO [13] l st S I fun l st S I =>
  im_zeq l st S I (fun l st S I =>
  im_aload 0 l st S I fun l st S I =>
  im_aload 1 l st S I fun l st S I =>
  im_callV 1 12 mi_J0_addAll d (retK mi_J2_addAll 78 81 d Rq l) st S I) (fun l st S I =>
  im_aload 3 l st S I fun l st S I =>
  im_castO [13] l st S I fun l st S I =>
  im_astore 2 l st S I fun l st S I =>
  im_aload 1 l st S I fun l st S I =>
  im_castO [12] l st S I fun l st S I =>
  im_astore 3 l st S I fun l st S I =>
  im_aload 3 l st S I fun l st S I =>
  im_callV 0 12 mi_J2_comparator d (retK mi_J2_addAll 51 56 d Rq l) st S I)))
theorem rv_J2_addAll_18 {d : Nat} {Rq : SmQ} {l : SmL} {st : List SmV} {S : SmS} {I : SmI} (h : tr_J2_addAll_18 d Rq l st S I) : SW mi_J2_addAll 18 d Rq l st S I :=
  (show SmW mi_J2_addAll 18 d Rq (tr_J2_addAll_18 d Rq) from
  (xv_zle dJ2_addAll_18 rfl
  (xv_aload_n dJ2_addAll_76 rfl
  (xv_aload_n dJ2_addAll_77 rfl
  (xv_callSU (x := ⟨"java/util/AbstractSet", "addAll", "(Ljava/util/Collection;)Z"⟩) dJ2_addAll_78 cl_12 tg_12 ok_J0_addAll rfl (by decide) ⟨q1568, q1569, q1442, q1571, q1572, q107, q1573⟩)))
  (xv_aload_n dJ2_addAll_21 rfl
  (xv_instO dJ2_addAll_22 q1481 (fun t h => by cases List.mem_singleton.mp h; exact ⟨_, _, _, ⟨(Nat.le_of_ble_eq_true rfl), (Nat.le_of_ble_eq_true rfl)⟩, cl_12, Or.inr q1500⟩)
  (xv_zeq dJ2_addAll_25 rfl
  (xv_aload_n dJ2_addAll_76 rfl
  (xv_aload_n dJ2_addAll_77 rfl
  (xv_callSU (x := ⟨"java/util/AbstractSet", "addAll", "(Ljava/util/Collection;)Z"⟩) dJ2_addAll_78 cl_12 tg_12 ok_J0_addAll rfl (by decide) ⟨q1568, q1569, q1442, q1571, q1572, q107, q1573⟩)))
  (xv_aload_n dJ2_addAll_28 rfl
  (xv_getR (k := 0) dJ2_addAll_29 cl_12 tg_12 in_J2 (Nat.le_of_ble_eq_true rfl) rfl q1439
  (xv_astore_n dJ2_addAll_32 rfl (Nat.le_of_ble_eq_true rfl)
  (xv_aload_n dJ2_addAll_33 rfl
  (xv_instO dJ2_addAll_34 q1402 (fun t h => by cases List.mem_singleton.mp h; exact ⟨_, _, _, ⟨(Nat.le_of_ble_eq_true rfl), (Nat.le_of_ble_eq_true rfl)⟩, cl_13, Or.inl rfl⟩)
  (xv_zeq dJ2_addAll_37 rfl
  (xv_aload_n dJ2_addAll_76 rfl
  (xv_aload_n dJ2_addAll_77 rfl
  (xv_callSU (x := ⟨"java/util/AbstractSet", "addAll", "(Ljava/util/Collection;)Z"⟩) dJ2_addAll_78 cl_12 tg_12 ok_J0_addAll rfl (by decide) ⟨q1568, q1569, q1442, q1571, q1572, q107, q1573⟩)))
  (xv_aload_n dJ2_addAll_40 rfl
  (xv_castO dJ2_addAll_41 q1402 (fun t h => by cases List.mem_singleton.mp h; exact ⟨_, _, _, ⟨(Nat.le_of_ble_eq_true rfl), (Nat.le_of_ble_eq_true rfl)⟩, cl_13, Or.inl rfl⟩)
  (xv_astore_n dJ2_addAll_44 rfl (Nat.le_of_ble_eq_true rfl)
  (xv_aload_n dJ2_addAll_45 rfl
  (xv_castO dJ2_addAll_46 q1481 (fun t h => by cases List.mem_singleton.mp h; exact ⟨_, _, _, ⟨(Nat.le_of_ble_eq_true rfl), (Nat.le_of_ble_eq_true rfl)⟩, cl_12, Or.inr q1500⟩)
  (xv_astore_n dJ2_addAll_49 rfl (Nat.le_of_ble_eq_true rfl)
  (xv_aload_n dJ2_addAll_50 rfl
  (xv_callF (x := ⟨"java/util/SortedSet", "comparator", "()Ljava/util/Comparator;"⟩) (J := "java/util/SortedSet") dJ2_addAll_51 cl_12 tg_12 ok_J2_comparator ⟨⟨by decide, by decide⟩, by decide +kernel⟩ ⟨Or.inl (lw_at lw_m6 180 rfl), q1485, Or.inl q1484, q1501, q1503, q1504, q1502, q1500, q109, q1505, Or.inl rfl⟩))))))))))))))))))) l st S I h
def tr_J2_addAll_56 (d : Nat) (Rq : SmQ) (l : SmL) (st : List SmV) (S : SmS) (I : SmI) : Prop :=
  im_aload 2 l st S I fun l st S I =>
  im_callV 0 13 mi_J4_comparator d (retK mi_J2_addAll 57 60 d Rq l) st S I
theorem rv_J2_addAll_56 {d : Nat} {Rq : SmQ} {l : SmL} {st : List SmV} {S : SmS} {I : SmI} (h : tr_J2_addAll_56 d Rq l st S I) : SW mi_J2_addAll 56 d Rq l st S I :=
  (show SmW mi_J2_addAll 56 d Rq (tr_J2_addAll_56 d Rq) from
  (xv_aload_n dJ2_addAll_56 rfl
  (xv_callV dJ2_addAll_57 cl_13 tg_13 ok_J4_comparator rfl (lw_V q1507 q1497 q2293 q111 q1499)))) l st S I h
def tr_J2_addAll_60 (d : Nat) (Rq : SmQ) (l : SmL) (st : List SmV) (S : SmS) (I : SmI) : Prop :=
  im_callS 2 mi_J22_equals d (retK mi_J2_addAll 60 63 d Rq l) st S I
theorem rv_J2_addAll_60 {d : Nat} {Rq : SmQ} {l : SmL} {st : List SmV} {S : SmS} {I : SmI} (h : tr_J2_addAll_60 d Rq l st S I) : SW mi_J2_addAll 60 d Rq l st S I :=
  (show SmW mi_J2_addAll 60 d Rq (tr_J2_addAll_60 d Rq) from
  (xv_callS dJ2_addAll_60 ok_J22_equals (lw_S q1508 q1509 q140 q1510))) l st S I h
def tr_J2_addAll_63 (d : Nat) (Rq : SmQ) (l : SmL) (st : List SmV) (S : SmS) (I : SmI) : Prop :=
  im_zeq l st S I (fun l st S I =>
  im_aload 0 l st S I fun l st S I =>
  im_aload 1 l st S I fun l st S I =>
  im_callV 1 12 mi_J0_addAll d (retK mi_J2_addAll 78 81 d Rq l) st S I) (fun l st S I =>
  im_aload 2 l st S I fun l st S I =>
  im_aload 3 l st S I fun l st S I =>
  im_present l st S I fun l st S I =>
  im_callV 2 13 mi_J4_addAllForTreeSet d (retK mi_J2_addAll 71 74 d Rq l) st S I)
theorem rv_J2_addAll_63 {d : Nat} {Rq : SmQ} {l : SmL} {st : List SmV} {S : SmS} {I : SmI} (h : tr_J2_addAll_63 d Rq l st S I) : SW mi_J2_addAll 63 d Rq l st S I :=
  (show SmW mi_J2_addAll 63 d Rq (tr_J2_addAll_63 d Rq) from
  (xv_zeq dJ2_addAll_63 rfl
  (xv_aload_n dJ2_addAll_76 rfl
  (xv_aload_n dJ2_addAll_77 rfl
  (xv_callSU (x := ⟨"java/util/AbstractSet", "addAll", "(Ljava/util/Collection;)Z"⟩) dJ2_addAll_78 cl_12 tg_12 ok_J0_addAll rfl (by decide) ⟨q1568, q1569, q1442, q1571, q1572, q107, q1573⟩)))
  (xv_aload_n dJ2_addAll_66 rfl
  (xv_aload_n dJ2_addAll_67 rfl
  (xv_present dJ2_addAll_68 q1070
  (xv_callVH dJ2_addAll_71 cl_13 tg_13 ok_J4_addAllForTreeSet rfl (lw_VW q1538 q1539 q1540 q111 q1541))))))) l st S I h
def tr_J2_addAll_74 (d : Nat) (Rq : SmQ) (l : SmL) (st : List SmV) (S : SmS) (I : SmI) : Prop :=
  im_ic 1 l st S I fun l st S I =>
  im_zreturn Rq l st S I
theorem rv_J2_addAll_74 {d : Nat} {Rq : SmQ} {l : SmL} {st : List SmV} {S : SmS} {I : SmI} (h : tr_J2_addAll_74 d Rq l st S I) : SW mi_J2_addAll 74 d Rq l st S I :=
  (show SmW mi_J2_addAll 74 d Rq (tr_J2_addAll_74 d Rq) from
  (xv_iconst dJ2_addAll_74 rfl (inRd rfl)
  (xv_zreturn dJ2_addAll_75 rfl))) l st S I h
def tr_J2_addAll_81 (d : Nat) (Rq : SmQ) (l : SmL) (st : List SmV) (S : SmS) (I : SmI) : Prop :=
  im_zreturn Rq l st S I
theorem rv_J2_addAll_81 {d : Nat} {Rq : SmQ} {l : SmL} {st : List SmV} {S : SmS} {I : SmI} (h : tr_J2_addAll_81 d Rq l st S I) : SW mi_J2_addAll 81 d Rq l st S I :=
  (show SmW mi_J2_addAll 81 d Rq (tr_J2_addAll_81 d Rq) from
  (xv_zreturn dJ2_addAll_81 rfl)) l st S I h
def tr_J2_comparator_0 (d : Nat) (Rq : SmQ) (l : SmL) (st : List SmV) (S : SmS) (I : SmI) : Prop :=
  im_aload 0 l st S I fun l st S I =>
  im_getR 12 0 l st S I fun l st S I =>
  im_callV 0 13 mi_J4_comparator d (retK mi_J2_comparator 4 9 d Rq l) st S I
theorem rv_J2_comparator_0 {d : Nat} {Rq : SmQ} {l : SmL} {st : List SmV} {S : SmS} {I : SmI} (h : tr_J2_comparator_0 d Rq l st S I) : SW mi_J2_comparator 0 d Rq l st S I :=
  (show SmW mi_J2_comparator 0 d Rq (tr_J2_comparator_0 d Rq) from
  (xv_aload_n dJ2_comparator_0 rfl
  (xv_getR (k := 0) dJ2_comparator_1 cl_12 tg_12 in_J2 (Nat.le_of_ble_eq_true rfl) rfl q1439
  (xv_callF (x := ⟨"java/util/NavigableMap", "comparator", "()Ljava/util/Comparator;"⟩) (J := "java/util/SortedMap") dJ2_comparator_4 cl_13 tg_13 ok_J4_comparator ⟨⟨by decide, by decide⟩, by decide +kernel⟩ ⟨Or.inr (List.mem_of_getElem? (i := 533) rfl), q1494, Or.inr (List.mem_of_getElem? (i := 531) rfl), q1495, q1497, q1498, q1496, q551, q111, q1499, Or.inr ⟨by decide, ⟨by decide, by decide⟩, q1493⟩⟩)))) l st S I h
def tr_J2_comparator_9 (d : Nat) (Rq : SmQ) (l : SmL) (st : List SmV) (S : SmS) (I : SmI) : Prop :=
  im_areturn Rq l st S I
theorem rv_J2_comparator_9 {d : Nat} {Rq : SmQ} {l : SmL} {st : List SmV} {S : SmS} {I : SmI} (h : tr_J2_comparator_9 d Rq l st S I) : SW mi_J2_comparator 9 d Rq l st S I :=
  (show SmW mi_J2_comparator 9 d Rq (tr_J2_comparator_9 d Rq) from
  (xv_areturn dJ2_comparator_9 rfl rfl)) l st S I h
def tr_J3_init_0 (d : Nat) (Rq : SmQ) (l : SmL) (st : List SmV) (S : SmS) (I : SmI) : Prop :=
  im_aload 0 l st S I fun l st S I =>
  im_objinit l st S I fun l st S I =>
  im_return Rq l st S I
theorem rv_J3_init_0 {d : Nat} {Rq : SmQ} {l : SmL} {st : List SmV} {S : SmS} {I : SmI} (h : tr_J3_init_0 d Rq l st S I) : SW mi_J3_init 0 d Rq l st S I :=
  (show SmW mi_J3_init 0 d Rq (tr_J3_init_0 d Rq) from
  (xv_aload_n dJ3_init_0 rfl
  (xv_objinit dJ3_init_1 q1409 q177 q178
  (xv_return dJ3_init_4 rfl)))) l st S I h
def tr_J4_addAllForTreeSet_0 (d : Nat) (Rq : SmQ) (l : SmL) (st : List SmV) (S : SmS) (I : SmI) : Prop :=
  im_aload 0 l st S I fun l st S I =>
  im_aload 1 l st S I fun l st S I =>
  im_callV 0 12 mi_J2_size d (retK mi_J4_addAllForTreeSet 2 7 d Rq l) st S I
theorem rv_J4_addAllForTreeSet_0 {d : Nat} {Rq : SmQ} {l : SmL} {st : List SmV} {S : SmS} {I : SmI} (h : tr_J4_addAllForTreeSet_0 d Rq l st S I) : SW mi_J4_addAllForTreeSet 0 d Rq l st S I :=
  (show SmW mi_J4_addAllForTreeSet 0 d Rq (tr_J4_addAllForTreeSet_0 d Rq) from
  (xv_aload_n dJ4_addAllForTreeSet_0 rfl
  (xv_aload_n dJ4_addAllForTreeSet_1 rfl
  (xv_callF (x := ⟨"java/util/SortedSet", "size", "()I"⟩) (J := "java/util/Collection") dJ4_addAllForTreeSet_2 cl_12 tg_12 ok_J2_size ⟨⟨by decide, by decide⟩, by decide +kernel⟩ ⟨Or.inr (List.mem_of_getElem? (i := 535) rfl), q1465, Or.inr (List.mem_of_getElem? (i := 534) rfl), q1478, q585, q1480, q1479, q1500, q109, q587, Or.inr ⟨by decide, ⟨by decide, by decide⟩, q1543⟩⟩)))) l st S I h
def tr_J4_addAllForTreeSet_7 (d : Nat) (Rq : SmQ) (l : SmL) (st : List SmV) (S : SmS) (I : SmI) : Prop :=
  im_aload 1 l st S I fun l st S I =>
  im_callV 0 12 mi_J2_iterator d (retK mi_J4_addAllForTreeSet 8 13 d Rq l) st S I
theorem rv_J4_addAllForTreeSet_7 {d : Nat} {Rq : SmQ} {l : SmL} {st : List SmV} {S : SmS} {I : SmI} (h : tr_J4_addAllForTreeSet_7 d Rq l st S I) : SW mi_J4_addAllForTreeSet 7 d Rq l st S I :=
  (show SmW mi_J4_addAllForTreeSet 7 d Rq (tr_J4_addAllForTreeSet_7 d Rq) from
  (xv_aload_n dJ4_addAllForTreeSet_7 rfl
  (xv_callF (x := ⟨"java/util/SortedSet", "iterator", "()Ljava/util/Iterator;"⟩) (J := "java/lang/Iterable") dJ4_addAllForTreeSet_8 cl_12 tg_12 ok_J2_iterator ⟨⟨by decide, by decide⟩, by decide +kernel⟩ ⟨Or.inr (List.mem_of_getElem? (i := 537) rfl), q1546, Or.inr (List.mem_of_getElem? (i := 536) rfl), q1548, q1254, q1326, q1325, q1500, q109, q1256, Or.inr ⟨by decide, ⟨by decide, by decide⟩, q1545⟩⟩))) l st S I h
def tr_J4_addAllForTreeSet_13 (d : Nat) (Rq : SmQ) (l : SmL) (st : List SmV) (S : SmS) (I : SmI) : Prop :=
  im_nul l st S I fun l st S I =>
  im_aload 2 l st S I fun l st S I =>
  im_callV 4 13 mi_J4_buildFromSorted d (retK mi_J4_addAllForTreeSet 15 18 d Rq l) st S I
theorem rv_J4_addAllForTreeSet_13 {d : Nat} {Rq : SmQ} {l : SmL} {st : List SmV} {S : SmS} {I : SmI} (h : tr_J4_addAllForTreeSet_13 d Rq l st S I) : SW mi_J4_addAllForTreeSet 13 d Rq l st S I :=
  (show SmW mi_J4_addAllForTreeSet 13 d Rq (tr_J4_addAllForTreeSet_13 d Rq) from
  (xv_nul dJ4_addAllForTreeSet_13
  (xv_aload_n dJ4_addAllForTreeSet_14 rfl
  (xv_callV dJ4_addAllForTreeSet_15 cl_13 tg_13 ok_J4_buildFromSorted rfl (lw_V q1549 q1551 qs41 q111 q1552))))) l st S I h
def tr_J4_addAllForTreeSet_18 (d : Nat) (Rq : SmQ) (l : SmL) (st : List SmV) (S : SmS) (I : SmI) : Prop :=
  im_return Rq l st S I
theorem rv_J4_addAllForTreeSet_18 {d : Nat} {Rq : SmQ} {l : SmL} {st : List SmV} {S : SmS} {I : SmI} (h : tr_J4_addAllForTreeSet_18 d Rq l st S I) : SW mi_J4_addAllForTreeSet 18 d Rq l st S I :=
  (show SmW mi_J4_addAllForTreeSet 18 d Rq (tr_J4_addAllForTreeSet_18 d Rq) from
  (xv_goto dJ4_addAllForTreeSet_18 rfl (xv_return dJ4_addAllForTreeSet_22 rfl))) l st S I h
def tr_J4_addAllForTreeSet_21 (d : Nat) (Rq : SmQ) (l : SmL) (st : List SmV) (S : SmS) (I : SmI) : Prop :=
  im_astore 3 l st S I fun l st S I =>
  im_return Rq l st S I
theorem rv_J4_addAllForTreeSet_21 {d : Nat} {Rq : SmQ} {l : SmL} {st : List SmV} {S : SmS} {I : SmI} (h : tr_J4_addAllForTreeSet_21 d Rq l st S I) : SW mi_J4_addAllForTreeSet 21 d Rq l st S I :=
  (show SmW mi_J4_addAllForTreeSet 21 d Rq (tr_J4_addAllForTreeSet_21 d Rq) from
  (xv_astore_n dJ4_addAllForTreeSet_21 rfl (Nat.le_of_ble_eq_true rfl)
  (xv_return dJ4_addAllForTreeSet_22 rfl))) l st S I h
def tr_J4_buildFromSorted_0 (d : Nat) (Rq : SmQ) (l : SmL) (st : List SmV) (S : SmS) (I : SmI) : Prop :=
  im_aload 0 l st S I fun l st S I =>
  im_iload 1 l st S I fun l st S I =>
  im_putI 13 4 l st S I fun l st S I =>
  im_aload 0 l st S I fun l st S I =>
  im_aload 0 l st S I fun l st S I =>
  im_ic 0 l st S I fun l st S I =>
  im_ic 0 l st S I fun l st S I =>
  im_iload 1 l st S I fun l st S I =>
  im_ic 1 l st S I fun l st S I =>
  im_isub l st S I fun l st S I =>
  im_iload 1 l st S I fun l st S I =>
  im_callS 1 mi_J4_computeRedLevel d (retK mi_J4_buildFromSorted 13 16 d Rq l) st S I
theorem rv_J4_buildFromSorted_0 {d : Nat} {Rq : SmQ} {l : SmL} {st : List SmV} {S : SmS} {I : SmI} (h : tr_J4_buildFromSorted_0 d Rq l st S I) : SW mi_J4_buildFromSorted 0 d Rq l st S I :=
  (show SmW mi_J4_buildFromSorted 0 d Rq (tr_J4_buildFromSorted_0 d Rq) from
  (xv_aload_n dJ4_buildFromSorted_0 rfl
  (xv_iload_n dJ4_buildFromSorted_1 rfl
  (xv_putI (k := 4) dJ4_buildFromSorted_2 cl_13 tg_13 in_J4 tyJ4_ok nmJ4 (Nat.le_of_ble_eq_true rfl) rfl ⟨Or.inl q1412, Or.inl rfl⟩
  (xv_aload_n dJ4_buildFromSorted_5 rfl
  (xv_aload_n dJ4_buildFromSorted_6 rfl
  (xv_iconst dJ4_buildFromSorted_7 rfl (inRd rfl)
  (xv_iconst dJ4_buildFromSorted_8 rfl (inRd rfl)
  (xv_iload_n dJ4_buildFromSorted_9 rfl
  (xv_iconst dJ4_buildFromSorted_10 rfl (inRd rfl)
  (xv_isub dJ4_buildFromSorted_11
  (xv_iload_n dJ4_buildFromSorted_12 rfl
  (xv_callS dJ4_buildFromSorted_13 ok_J4_computeRedLevel (lw_S q1553 q1554 q111 q1555)))))))))))))) l st S I h
def tr_J4_buildFromSorted_16 (d : Nat) (Rq : SmQ) (l : SmL) (st : List SmV) (S : SmS) (I : SmI) : Prop :=
  im_aload 2 l st S I fun l st S I =>
  im_aload 3 l st S I fun l st S I =>
  im_aload 4 l st S I fun l st S I =>
  im_callV 7 13 mi_J4_buildFromSorted_2 d (retK mi_J4_buildFromSorted 20 23 d Rq l) st S I
theorem rv_J4_buildFromSorted_16 {d : Nat} {Rq : SmQ} {l : SmL} {st : List SmV} {S : SmS} {I : SmI} (h : tr_J4_buildFromSorted_16 d Rq l st S I) : SW mi_J4_buildFromSorted 16 d Rq l st S I :=
  (show SmW mi_J4_buildFromSorted 16 d Rq (tr_J4_buildFromSorted_16 d Rq) from
  (xv_aload_n dJ4_buildFromSorted_16 rfl
  (xv_aload_n dJ4_buildFromSorted_17 rfl
  (xv_aload dJ4_buildFromSorted_18
  (xv_callV dJ4_buildFromSorted_20 cl_13 tg_13 ok_J4_buildFromSorted_2 rfl (lw_V q1557 q1559 qs42 q111 q1560)))))) l st S I h
def tr_J4_buildFromSorted_23 (d : Nat) (Rq : SmQ) (l : SmL) (st : List SmV) (S : SmS) (I : SmI) : Prop :=
  im_putR 13 3 l st S I fun l st S I =>
  im_return Rq l st S I
theorem rv_J4_buildFromSorted_23 {d : Nat} {Rq : SmQ} {l : SmL} {st : List SmV} {S : SmS} {I : SmI} (h : tr_J4_buildFromSorted_23 d Rq l st S I) : SW mi_J4_buildFromSorted 23 d Rq l st S I :=
  (show SmW mi_J4_buildFromSorted 23 d Rq (tr_J4_buildFromSorted_23 d Rq) from
  (xv_putR (k := 3) dJ4_buildFromSorted_23 cl_13 tg_13 in_J4 tyJ4_ok nmJ4 (Nat.le_of_ble_eq_true rfl) rfl ⟨Or.inl q1411, Or.inl rfl⟩
  (xv_return dJ4_buildFromSorted_26 rfl))) l st S I h
def tr_J4_computeRedLevel_0 (d : Nat) (Rq : SmQ) (l : SmL) (st : List SmV) (S : SmS) (I : SmI) : Prop :=
  im_ic 31 l st S I fun l st S I =>
  im_iload 0 l st S I fun l st S I =>
  im_ic 1 l st S I fun l st S I =>
  im_iadd l st S I fun l st S I =>
  im_callS 1 mi_J18_numberOfLeadingZeros d (retK mi_J4_computeRedLevel 5 8 d Rq l) st S I
theorem rv_J4_computeRedLevel_0 {d : Nat} {Rq : SmQ} {l : SmL} {st : List SmV} {S : SmS} {I : SmI} (h : tr_J4_computeRedLevel_0 d Rq l st S I) : SW mi_J4_computeRedLevel 0 d Rq l st S I :=
  (show SmW mi_J4_computeRedLevel 0 d Rq (tr_J4_computeRedLevel_0 d Rq) from
  (xv_bipush dJ4_computeRedLevel_0 rfl (inRd rfl)
  (xv_iload_n dJ4_computeRedLevel_2 rfl
  (xv_iconst dJ4_computeRedLevel_3 rfl (inRd rfl)
  (xv_iadd dJ4_computeRedLevel_4
  (xv_callS dJ4_computeRedLevel_5 ok_J18_numberOfLeadingZeros (lw_S q1556 q962 q134 q963))))))) l st S I h
def tr_J4_computeRedLevel_8 (d : Nat) (Rq : SmQ) (l : SmL) (st : List SmV) (S : SmS) (I : SmI) : Prop :=
  im_isub l st S I fun l st S I =>
  im_ireturn Rq l st S I
theorem rv_J4_computeRedLevel_8 {d : Nat} {Rq : SmQ} {l : SmL} {st : List SmV} {S : SmS} {I : SmI} (h : tr_J4_computeRedLevel_8 d Rq l st S I) : SW mi_J4_computeRedLevel 8 d Rq l st S I :=
  (show SmW mi_J4_computeRedLevel 8 d Rq (tr_J4_computeRedLevel_8 d Rq) from
  (xv_isub dJ4_computeRedLevel_8
  (xv_ireturn dJ4_computeRedLevel_9 rfl))) l st S I h
def tr_J4_buildFromSorted_2_0 (d : Nat) (Rq : SmQ) (l : SmL) (st : List SmV) (S : SmS) (I : SmI) : Prop :=
  im_iload 3 l st S I fun l st S I =>
  im_iload 2 l st S I fun l st S I =>
  im_cge l st S I (fun l st S I =>
  im_iload 2 l st S I fun l st S I =>
  im_iload 3 l st S I fun l st S I =>
  im_iadd l st S I fun l st S I =>
  im_ic 1 l st S I fun l st S I =>
  im_iushr l st S I fun l st S I =>
  im_istore 8 l st S I fun l st S I =>
  im_nul l st S I fun l st S I =>
  im_astore 9 l st S I fun l st S I =>
  im_iload 2 l st S I fun l st S I =>
  im_iload 8 l st S I fun l st S I =>
  im_cge l st S I (fun l st S I =>
  SW mi_J4_buildFromSorted_2 45 d Rq l st S I) (fun l st S I =>
  im_aload 0 l st S I fun l st S I =>
  im_iload 1 l st S I fun l st S I =>
  im_ic 1 l st S I fun l st S I =>
  im_iadd l st S I fun l st S I =>
  im_iload 2 l st S I fun l st S I =>
  im_iload 8 l st S I fun l st S I =>
  im_ic 1 l st S I fun l st S I =>
  im_isub l st S I fun l st S I =>
  im_iload 4 l st S I fun l st S I =>
  im_aload 5 l st S I fun l st S I =>
  im_aload 6 l st S I fun l st S I =>
  im_aload 7 l st S I fun l st S I =>
  im_callV 7 13 mi_J4_buildFromSorted_2 d (retK mi_J4_buildFromSorted_2 40 43 d Rq l) st S I)) (fun l st S I =>
  im_nul l st S I fun l st S I =>
  im_areturn Rq l st S I)
theorem rv_J4_buildFromSorted_2_0 {d : Nat} {Rq : SmQ} {l : SmL} {st : List SmV} {S : SmS} {I : SmI} (h : tr_J4_buildFromSorted_2_0 d Rq l st S I) : SW mi_J4_buildFromSorted_2 0 d Rq l st S I :=
  (show SmW mi_J4_buildFromSorted_2 0 d Rq (tr_J4_buildFromSorted_2_0 d Rq) from
  (xv_iload_n dJ4_buildFromSorted_2_0 rfl
  (xv_iload_n dJ4_buildFromSorted_2_1 rfl
  (xv_cge dJ4_buildFromSorted_2_2 rfl
  (xv_iload_n dJ4_buildFromSorted_2_7 rfl
  (xv_iload_n dJ4_buildFromSorted_2_8 rfl
  (xv_iadd dJ4_buildFromSorted_2_9
  (xv_iconst dJ4_buildFromSorted_2_10 rfl (inRd rfl)
  (xv_iushr dJ4_buildFromSorted_2_11
  (xv_istore dJ4_buildFromSorted_2_12 (Nat.le_of_ble_eq_true rfl)
  (xv_nul dJ4_buildFromSorted_2_14
  (xv_astore dJ4_buildFromSorted_2_15 (Nat.le_of_ble_eq_true rfl)
  (xv_iload_n dJ4_buildFromSorted_2_17 rfl
  (xv_iload dJ4_buildFromSorted_2_18
  (xv_cge dJ4_buildFromSorted_2_20 rfl
  (fun _ _ _ _ h => h)
  (xv_aload_n dJ4_buildFromSorted_2_23 rfl
  (xv_iload_n dJ4_buildFromSorted_2_24 rfl
  (xv_iconst dJ4_buildFromSorted_2_25 rfl (inRd rfl)
  (xv_iadd dJ4_buildFromSorted_2_26
  (xv_iload_n dJ4_buildFromSorted_2_27 rfl
  (xv_iload dJ4_buildFromSorted_2_28
  (xv_iconst dJ4_buildFromSorted_2_30 rfl (inRd rfl)
  (xv_isub dJ4_buildFromSorted_2_31
  (xv_iload dJ4_buildFromSorted_2_32
  (xv_aload dJ4_buildFromSorted_2_34
  (xv_aload dJ4_buildFromSorted_2_36
  (xv_aload dJ4_buildFromSorted_2_38
  (xv_callV dJ4_buildFromSorted_2_40 cl_13 tg_13 ok_J4_buildFromSorted_2 rfl (lw_V q1557 q1559 qs42 q111 q1560)))))))))))))))))))))))))
  (xv_nul dJ4_buildFromSorted_2_5
  (xv_areturn dJ4_buildFromSorted_2_6 rfl rfl)))))) l st S I h
def tr_J4_buildFromSorted_2_43 (d : Nat) (Rq : SmQ) (l : SmL) (st : List SmV) (S : SmS) (I : SmI) : Prop :=
  im_astore 9 l st S I fun l st S I =>
  SW mi_J4_buildFromSorted_2 45 d Rq l st S I
theorem rv_J4_buildFromSorted_2_43 {d : Nat} {Rq : SmQ} {l : SmL} {st : List SmV} {S : SmS} {I : SmI} (h : tr_J4_buildFromSorted_2_43 d Rq l st S I) : SW mi_J4_buildFromSorted_2 43 d Rq l st S I :=
  (show SmW mi_J4_buildFromSorted_2 43 d Rq (tr_J4_buildFromSorted_2_43 d Rq) from
  (xv_astore dJ4_buildFromSorted_2_43 (Nat.le_of_ble_eq_true rfl)
  (fun _ _ _ _ h => h))) l st S I h
def tr_J4_buildFromSorted_2_45 (d : Nat) (Rq : SmQ) (l : SmL) (st : List SmV) (S : SmS) (I : SmI) : Prop :=
  im_aload 5 l st S I fun l st S I =>
  im_ifnull l st S I (fun l st S I =>
  im_aload 6 l st S I fun l st S I =>
  False) (fun l st S I =>
  im_aload 7 l st S I fun l st S I =>
  im_ifnn l st S I (fun l st S I =>
  im_aload 5 l st S I fun l st S I =>
  im_callV 0 16 mi_J26_next d (retK mi_J4_buildFromSorted_2 90 95 d Rq l) st S I) (fun l st S I =>
  im_aload 5 l st S I fun l st S I =>
  im_callV 0 16 mi_J26_next d (retK mi_J4_buildFromSorted_2 57 62 d Rq l) st S I))
theorem rv_J4_buildFromSorted_2_45 {d : Nat} {Rq : SmQ} {l : SmL} {st : List SmV} {S : SmS} {I : SmI} (h : tr_J4_buildFromSorted_2_45 d Rq l st S I) : SW mi_J4_buildFromSorted_2 45 d Rq l st S I :=
  (show SmW mi_J4_buildFromSorted_2 45 d Rq (tr_J4_buildFromSorted_2_45 d Rq) from
  (xv_aload dJ4_buildFromSorted_2_45
  (xv_ifnull dJ4_buildFromSorted_2_47 rfl
  (xv_aload dJ4_buildFromSorted_2_104
  (fun _ _ _ _ h => h.elim))
  (xv_aload dJ4_buildFromSorted_2_50
  (xv_ifnn dJ4_buildFromSorted_2_52 rfl
  (xv_aload dJ4_buildFromSorted_2_88
  (xv_callF (x := ⟨"java/util/Iterator", "next", "()Ljava/lang/Object;"⟩) (J := "java/util/Iterator") dJ4_buildFromSorted_2_90 cl_16 tg_16 ok_J26_next ⟨⟨by decide, by decide⟩, by decide +kernel⟩ ⟨Or.inl (lw_at lw_m7 19 rfl), q1350, Or.inl q1349, q1370, q1372, q1373, q1371, q1341, q144, q1374, Or.inl rfl⟩))
  (xv_aload dJ4_buildFromSorted_2_55
  (xv_callF (x := ⟨"java/util/Iterator", "next", "()Ljava/lang/Object;"⟩) (J := "java/util/Iterator") dJ4_buildFromSorted_2_57 cl_16 tg_16 ok_J26_next ⟨⟨by decide, by decide⟩, by decide +kernel⟩ ⟨Or.inl (lw_at lw_m7 19 rfl), q1350, Or.inl q1349, q1370, q1372, q1373, q1371, q1341, q144, q1374, Or.inl rfl⟩))))))) l st S I h
def tr_J4_buildFromSorted_2_62 (d : Nat) (Rq : SmQ) (l : SmL) (st : List SmV) (S : SmS) (I : SmI) : Prop :=
  False
theorem rv_J4_buildFromSorted_2_62 {d : Nat} {Rq : SmQ} {l : SmL} {st : List SmV} {S : SmS} {I : SmI} (h : tr_J4_buildFromSorted_2_62 d Rq l st S I) : SW mi_J4_buildFromSorted_2 62 d Rq l st S I :=
  (show SmW mi_J4_buildFromSorted_2 62 d Rq (tr_J4_buildFromSorted_2_62 d Rq) from
  (fun _ _ _ _ h => h.elim)) l st S I h
def tr_J4_buildFromSorted_2_74 (d : Nat) (Rq : SmQ) (l : SmL) (st : List SmV) (S : SmS) (I : SmI) : Prop :=
  im_astore 10 l st S I fun l st S I =>
  im_aload 12 l st S I fun l st S I =>
  False
theorem rv_J4_buildFromSorted_2_74 {d : Nat} {Rq : SmQ} {l : SmL} {st : List SmV} {S : SmS} {I : SmI} (h : tr_J4_buildFromSorted_2_74 d Rq l st S I) : SW mi_J4_buildFromSorted_2 74 d Rq l st S I :=
  (show SmW mi_J4_buildFromSorted_2 74 d Rq (tr_J4_buildFromSorted_2_74 d Rq) from
  (xv_astore dJ4_buildFromSorted_2_74 (Nat.le_of_ble_eq_true rfl)
  (xv_aload dJ4_buildFromSorted_2_76
  (fun _ _ _ _ h => h.elim)))) l st S I h
def tr_J4_buildFromSorted_2_83 (d : Nat) (Rq : SmQ) (l : SmL) (st : List SmV) (S : SmS) (I : SmI) : Prop :=
  im_astore 11 l st S I fun l st S I =>
  im_new 14 6 l st S I fun l st S I =>
  im_dup l st S I fun l st S I =>
  im_aload 10 l st S I fun l st S I =>
  im_aload 11 l st S I fun l st S I =>
  im_nul l st S I fun l st S I =>
  im_callV 3 14 mi_J21_init d (retK mi_J4_buildFromSorted_2 137 140 d Rq l) st S I
theorem rv_J4_buildFromSorted_2_83 {d : Nat} {Rq : SmQ} {l : SmL} {st : List SmV} {S : SmS} {I : SmI} (h : tr_J4_buildFromSorted_2_83 d Rq l st S I) : SW mi_J4_buildFromSorted_2 83 d Rq l st S I :=
  (show SmW mi_J4_buildFromSorted_2 83 d Rq (tr_J4_buildFromSorted_2_83 d Rq) from
  (xv_astore dJ4_buildFromSorted_2_83 (Nat.le_of_ble_eq_true rfl)
  (xv_goto dJ4_buildFromSorted_2_85 rfl (xv_new dJ4_buildFromSorted_2_128 cl_14 tg_14 in_J21 tyJ21_ok q1098 q1099 q139 df_14
  (xv_dup dJ4_buildFromSorted_2_131
  (xv_aload dJ4_buildFromSorted_2_132
  (xv_aload dJ4_buildFromSorted_2_134
  (xv_nul dJ4_buildFromSorted_2_136
  (xv_callI dJ4_buildFromSorted_2_137 tg_14 ok_J21_init rfl rfl q1100 q1101 q139 q1102))))))))) l st S I h
def tr_J4_buildFromSorted_2_95 (d : Nat) (Rq : SmQ) (l : SmL) (st : List SmV) (S : SmS) (I : SmI) : Prop :=
  im_astore 10 l st S I fun l st S I =>
  im_aload 7 l st S I fun l st S I =>
  im_astore 11 l st S I fun l st S I =>
  im_new 14 6 l st S I fun l st S I =>
  im_dup l st S I fun l st S I =>
  im_aload 10 l st S I fun l st S I =>
  im_aload 11 l st S I fun l st S I =>
  im_nul l st S I fun l st S I =>
  im_callV 3 14 mi_J21_init d (retK mi_J4_buildFromSorted_2 137 140 d Rq l) st S I
theorem rv_J4_buildFromSorted_2_95 {d : Nat} {Rq : SmQ} {l : SmL} {st : List SmV} {S : SmS} {I : SmI} (h : tr_J4_buildFromSorted_2_95 d Rq l st S I) : SW mi_J4_buildFromSorted_2 95 d Rq l st S I :=
  (show SmW mi_J4_buildFromSorted_2 95 d Rq (tr_J4_buildFromSorted_2_95 d Rq) from
  (xv_astore dJ4_buildFromSorted_2_95 (Nat.le_of_ble_eq_true rfl)
  (xv_aload dJ4_buildFromSorted_2_97
  (xv_astore dJ4_buildFromSorted_2_99 (Nat.le_of_ble_eq_true rfl)
  (xv_goto dJ4_buildFromSorted_2_101 rfl (xv_new dJ4_buildFromSorted_2_128 cl_14 tg_14 in_J21 tyJ21_ok q1098 q1099 q139 df_14
  (xv_dup dJ4_buildFromSorted_2_131
  (xv_aload dJ4_buildFromSorted_2_132
  (xv_aload dJ4_buildFromSorted_2_134
  (xv_nul dJ4_buildFromSorted_2_136
  (xv_callI dJ4_buildFromSorted_2_137 tg_14 ok_J21_init rfl rfl q1100 q1101 q139 q1102))))))))))) l st S I h
def tr_J4_buildFromSorted_2_109 (d : Nat) (Rq : SmQ) (l : SmL) (st : List SmV) (S : SmS) (I : SmI) : Prop :=
  im_astore 10 l st S I fun l st S I =>
  im_aload 7 l st S I fun l st S I =>
  im_ifnull l st S I (fun l st S I =>
  im_aload 6 l st S I fun l st S I =>
  False) (fun l st S I =>
  im_aload 7 l st S I fun l st S I =>
  SW mi_J4_buildFromSorted_2 126 d Rq l st S I)
theorem rv_J4_buildFromSorted_2_109 {d : Nat} {Rq : SmQ} {l : SmL} {st : List SmV} {S : SmS} {I : SmI} (h : tr_J4_buildFromSorted_2_109 d Rq l st S I) : SW mi_J4_buildFromSorted_2 109 d Rq l st S I :=
  (show SmW mi_J4_buildFromSorted_2 109 d Rq (tr_J4_buildFromSorted_2_109 d Rq) from
  (xv_astore dJ4_buildFromSorted_2_109 (Nat.le_of_ble_eq_true rfl)
  (xv_aload dJ4_buildFromSorted_2_111
  (xv_ifnull dJ4_buildFromSorted_2_113 rfl
  (xv_aload dJ4_buildFromSorted_2_121
  (fun _ _ _ _ h => h.elim))
  (xv_aload dJ4_buildFromSorted_2_116
  (xv_goto dJ4_buildFromSorted_2_118 rfl (fun _ _ _ _ h => h))))))) l st S I h
def tr_J4_buildFromSorted_2_126 (d : Nat) (Rq : SmQ) (l : SmL) (st : List SmV) (S : SmS) (I : SmI) : Prop :=
  im_astore 11 l st S I fun l st S I =>
  im_new 14 6 l st S I fun l st S I =>
  im_dup l st S I fun l st S I =>
  im_aload 10 l st S I fun l st S I =>
  im_aload 11 l st S I fun l st S I =>
  im_nul l st S I fun l st S I =>
  im_callV 3 14 mi_J21_init d (retK mi_J4_buildFromSorted_2 137 140 d Rq l) st S I
theorem rv_J4_buildFromSorted_2_126 {d : Nat} {Rq : SmQ} {l : SmL} {st : List SmV} {S : SmS} {I : SmI} (h : tr_J4_buildFromSorted_2_126 d Rq l st S I) : SW mi_J4_buildFromSorted_2 126 d Rq l st S I :=
  (show SmW mi_J4_buildFromSorted_2 126 d Rq (tr_J4_buildFromSorted_2_126 d Rq) from
  (xv_astore dJ4_buildFromSorted_2_126 (Nat.le_of_ble_eq_true rfl)
  (xv_new dJ4_buildFromSorted_2_128 cl_14 tg_14 in_J21 tyJ21_ok q1098 q1099 q139 df_14
  (xv_dup dJ4_buildFromSorted_2_131
  (xv_aload dJ4_buildFromSorted_2_132
  (xv_aload dJ4_buildFromSorted_2_134
  (xv_nul dJ4_buildFromSorted_2_136
  (xv_callI dJ4_buildFromSorted_2_137 tg_14 ok_J21_init rfl rfl q1100 q1101 q139 q1102)))))))) l st S I h
def tr_J4_buildFromSorted_2_140 (d : Nat) (Rq : SmQ) (l : SmL) (st : List SmV) (S : SmS) (I : SmI) : Prop :=
  im_astore 12 l st S I fun l st S I =>
  im_iload 1 l st S I fun l st S I =>
  im_iload 4 l st S I fun l st S I =>
  im_cne l st S I (fun l st S I =>
  SW mi_J4_buildFromSorted_2 154 d Rq l st S I) (fun l st S I =>
  im_aload 12 l st S I fun l st S I =>
  im_ic 0 l st S I fun l st S I =>
  im_putZ 14 5 l st S I fun l st S I =>
  SW mi_J4_buildFromSorted_2 154 d Rq l st S I)
theorem rv_J4_buildFromSorted_2_140 {d : Nat} {Rq : SmQ} {l : SmL} {st : List SmV} {S : SmS} {I : SmI} (h : tr_J4_buildFromSorted_2_140 d Rq l st S I) : SW mi_J4_buildFromSorted_2 140 d Rq l st S I :=
  (show SmW mi_J4_buildFromSorted_2 140 d Rq (tr_J4_buildFromSorted_2_140 d Rq) from
  (xv_astore dJ4_buildFromSorted_2_140 (Nat.le_of_ble_eq_true rfl)
  (xv_iload_n dJ4_buildFromSorted_2_142 rfl
  (xv_iload dJ4_buildFromSorted_2_143
  (xv_cne dJ4_buildFromSorted_2_145 rfl
  (fun _ _ _ _ h => h)
  (xv_aload dJ4_buildFromSorted_2_148
  (xv_iconst dJ4_buildFromSorted_2_150 rfl (inRd rfl)
  (xv_putZ (k := 5) dJ4_buildFromSorted_2_151 cl_14 tg_14 in_J21 tyJ21_ok nmJ21 (Nat.le_of_ble_eq_true rfl) rfl ⟨Or.inl q1114, Or.inl rfl⟩
  (fun _ _ _ _ h => h))))))))) l st S I h
def tr_J4_buildFromSorted_2_154 (d : Nat) (Rq : SmQ) (l : SmL) (st : List SmV) (S : SmS) (I : SmI) : Prop :=
  im_aload 9 l st S I fun l st S I =>
  im_ifnull l st S I (fun l st S I =>
  SW mi_J4_buildFromSorted_2 173 d Rq l st S I) (fun l st S I =>
  im_aload 12 l st S I fun l st S I =>
  im_aload 9 l st S I fun l st S I =>
  im_putR 14 2 l st S I fun l st S I =>
  im_aload 9 l st S I fun l st S I =>
  im_aload 12 l st S I fun l st S I =>
  im_putR 14 4 l st S I fun l st S I =>
  SW mi_J4_buildFromSorted_2 173 d Rq l st S I)
theorem rv_J4_buildFromSorted_2_154 {d : Nat} {Rq : SmQ} {l : SmL} {st : List SmV} {S : SmS} {I : SmI} (h : tr_J4_buildFromSorted_2_154 d Rq l st S I) : SW mi_J4_buildFromSorted_2 154 d Rq l st S I :=
  (show SmW mi_J4_buildFromSorted_2 154 d Rq (tr_J4_buildFromSorted_2_154 d Rq) from
  (xv_aload dJ4_buildFromSorted_2_154
  (xv_ifnull dJ4_buildFromSorted_2_156 rfl
  (fun _ _ _ _ h => h)
  (xv_aload dJ4_buildFromSorted_2_159
  (xv_aload dJ4_buildFromSorted_2_161
  (xv_putR (k := 2) dJ4_buildFromSorted_2_163 cl_14 tg_14 in_J21 tyJ21_ok nmJ21 (Nat.le_of_ble_eq_true rfl) rfl ⟨Or.inl q1109, Or.inl rfl⟩
  (xv_aload dJ4_buildFromSorted_2_166
  (xv_aload dJ4_buildFromSorted_2_168
  (xv_putR (k := 4) dJ4_buildFromSorted_2_170 cl_14 tg_14 in_J21 tyJ21_ok nmJ21 (Nat.le_of_ble_eq_true rfl) rfl ⟨Or.inl q1112, Or.inl rfl⟩
  (fun _ _ _ _ h => h)))))))))) l st S I h
def tr_J4_buildFromSorted_2_173 (d : Nat) (Rq : SmQ) (l : SmL) (st : List SmV) (S : SmS) (I : SmI) : Prop :=
  im_iload 8 l st S I fun l st S I =>
  im_iload 3 l st S I fun l st S I =>
  im_cge l st S I (fun l st S I =>
  im_aload 12 l st S I fun l st S I =>
  im_areturn Rq l st S I) (fun l st S I =>
  im_aload 0 l st S I fun l st S I =>
  im_iload 1 l st S I fun l st S I =>
  im_ic 1 l st S I fun l st S I =>
  im_iadd l st S I fun l st S I =>
  im_iload 8 l st S I fun l st S I =>
  im_ic 1 l st S I fun l st S I =>
  im_iadd l st S I fun l st S I =>
  im_iload 3 l st S I fun l st S I =>
  im_iload 4 l st S I fun l st S I =>
  im_aload 5 l st S I fun l st S I =>
  im_aload 6 l st S I fun l st S I =>
  im_aload 7 l st S I fun l st S I =>
  im_callV 7 13 mi_J4_buildFromSorted_2 d (retK mi_J4_buildFromSorted_2 196 199 d Rq l) st S I)
theorem rv_J4_buildFromSorted_2_173 {d : Nat} {Rq : SmQ} {l : SmL} {st : List SmV} {S : SmS} {I : SmI} (h : tr_J4_buildFromSorted_2_173 d Rq l st S I) : SW mi_J4_buildFromSorted_2 173 d Rq l st S I :=
  (show SmW mi_J4_buildFromSorted_2 173 d Rq (tr_J4_buildFromSorted_2_173 d Rq) from
  (xv_iload dJ4_buildFromSorted_2_173
  (xv_iload_n dJ4_buildFromSorted_2_175 rfl
  (xv_cge dJ4_buildFromSorted_2_176 rfl
  (xv_aload dJ4_buildFromSorted_2_215
  (xv_areturn dJ4_buildFromSorted_2_217 rfl rfl))
  (xv_aload_n dJ4_buildFromSorted_2_179 rfl
  (xv_iload_n dJ4_buildFromSorted_2_180 rfl
  (xv_iconst dJ4_buildFromSorted_2_181 rfl (inRd rfl)
  (xv_iadd dJ4_buildFromSorted_2_182
  (xv_iload dJ4_buildFromSorted_2_183
  (xv_iconst dJ4_buildFromSorted_2_185 rfl (inRd rfl)
  (xv_iadd dJ4_buildFromSorted_2_186
  (xv_iload_n dJ4_buildFromSorted_2_187 rfl
  (xv_iload dJ4_buildFromSorted_2_188
  (xv_aload dJ4_buildFromSorted_2_190
  (xv_aload dJ4_buildFromSorted_2_192
  (xv_aload dJ4_buildFromSorted_2_194
  (xv_callV dJ4_buildFromSorted_2_196 cl_13 tg_13 ok_J4_buildFromSorted_2 rfl (lw_V q1557 q1559 qs42 q111 q1560)))))))))))))))))) l st S I h
def tr_J4_buildFromSorted_2_199 (d : Nat) (Rq : SmQ) (l : SmL) (st : List SmV) (S : SmS) (I : SmI) : Prop :=
  im_astore 13 l st S I fun l st S I =>
  im_aload 12 l st S I fun l st S I =>
  im_aload 13 l st S I fun l st S I =>
  im_putR 14 3 l st S I fun l st S I =>
  im_aload 13 l st S I fun l st S I =>
  im_aload 12 l st S I fun l st S I =>
  im_putR 14 4 l st S I fun l st S I =>
  im_aload 12 l st S I fun l st S I =>
  im_areturn Rq l st S I
theorem rv_J4_buildFromSorted_2_199 {d : Nat} {Rq : SmQ} {l : SmL} {st : List SmV} {S : SmS} {I : SmI} (h : tr_J4_buildFromSorted_2_199 d Rq l st S I) : SW mi_J4_buildFromSorted_2 199 d Rq l st S I :=
  (show SmW mi_J4_buildFromSorted_2 199 d Rq (tr_J4_buildFromSorted_2_199 d Rq) from
  (xv_astore dJ4_buildFromSorted_2_199 (Nat.le_of_ble_eq_true rfl)
  (xv_aload dJ4_buildFromSorted_2_201
  (xv_aload dJ4_buildFromSorted_2_203
  (xv_putR (k := 3) dJ4_buildFromSorted_2_205 cl_14 tg_14 in_J21 tyJ21_ok nmJ21 (Nat.le_of_ble_eq_true rfl) rfl ⟨Or.inl q1110, Or.inl rfl⟩
  (xv_aload dJ4_buildFromSorted_2_208
  (xv_aload dJ4_buildFromSorted_2_210
  (xv_putR (k := 4) dJ4_buildFromSorted_2_212 cl_14 tg_14 in_J21 tyJ21_ok nmJ21 (Nat.le_of_ble_eq_true rfl) rfl ⟨Or.inl q1112, Or.inl rfl⟩
  (xv_aload dJ4_buildFromSorted_2_215
  (xv_areturn dJ4_buildFromSorted_2_217 rfl rfl)))))))))) l st S I h
