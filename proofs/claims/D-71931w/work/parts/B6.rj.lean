/-! regions of methods, printed by gen/regions.py -/
set_option maxRecDepth 100000
/- J2_clear: cut at [0, 9] -/
abbrev mi_J2_clear : SmM := (yJ2_clear, cJ2_clear, 1, (none : Option FieldType), [])
theorem ok_J2_clear : callOk mi_J2_clear 0 := ⟨rfl, rfl, Nat.le_of_ble_eq_true rfl, by decide, by decide, by decide +kernel⟩
theorem ent_J2_clear (x : Option Nat) : entL (mL mi_J2_clear) [vR x] = [some (vR x)] := rfl
/- J24_iterator: cut at [0, 20, 31] -/
abbrev mi_J24_iterator : SmM := (yJ24_iterator, cJ24_iterator, 1, (some (FieldType.object "java/util/Iterator") : Option FieldType), [])
theorem ok_J24_iterator : callOk mi_J24_iterator 0 := ⟨rfl, rfl, Nat.le_of_ble_eq_true rfl, by decide, by decide, by decide +kernel⟩
theorem ent_J24_iterator (x : Option Nat) : entL (mL mi_J24_iterator) [vR x] = [some (vR x)] := rfl
/- J4_navigableKeySet: cut at [0, 22] -/
abbrev mi_J4_navigableKeySet : SmM := (yJ4_navigableKeySet, cJ4_navigableKeySet, 2, (some (FieldType.object "java/util/NavigableSet") : Option FieldType), [])
theorem ok_J4_navigableKeySet : callOk mi_J4_navigableKeySet 0 := ⟨rfl, rfl, Nat.le_of_ble_eq_true rfl, by decide, by decide, by decide +kernel⟩
theorem ent_J4_navigableKeySet (x : Option Nat) : entL (mL mi_J4_navigableKeySet) [vR x] = [some (vR x), none] := rfl
/- J4_keyIterator: cut at [0, 9, 12] -/
abbrev mi_J4_keyIterator : SmM := (yJ4_keyIterator, cJ4_keyIterator, 1, (some (FieldType.object "java/util/Iterator") : Option FieldType), [])
theorem ok_J4_keyIterator : callOk mi_J4_keyIterator 0 := ⟨rfl, rfl, Nat.le_of_ble_eq_true rfl, by decide, by decide, by decide +kernel⟩
theorem ent_J4_keyIterator (x : Option Nat) : entL (mL mi_J4_keyIterator) [vR x] = [some (vR x)] := rfl
/- J26_init: cut at [0, 6] -/
abbrev mi_J26_init : SmM := (yJ26_init, cJ26_init, 3, (none : Option FieldType), [])
theorem ok_J26_init : callOk mi_J26_init 2 := ⟨rfl, rfl, Nat.le_of_ble_eq_true rfl, by decide, by decide, by decide +kernel⟩
theorem ent_J26_init (x : Option Nat) (x0 : Option Nat) (x1 : Option Nat) : entL (mL mi_J26_init) [vR x, vR x0, vR x1] = [some (vR x), some (vR x0), some (vR x1)] := rfl
/- J24_init: cut at [0, 4] -/
abbrev mi_J24_init : SmM := (yJ24_init, cJ24_init, 2, (none : Option FieldType), [])
theorem ok_J24_init : callOk mi_J24_init 1 := ⟨rfl, rfl, Nat.le_of_ble_eq_true rfl, by decide, by decide, by decide +kernel⟩
theorem ent_J24_init (x : Option Nat) (x0 : Option Nat) : entL (mL mi_J24_init) [vR x, vR x0] = [some (vR x), some (vR x0)] := rfl
/- J1_init: cut at [0, 4] -/
abbrev mi_J1_init : SmM := (yJ1_init, cJ1_init, 1, (none : Option FieldType), [])
theorem ok_J1_init : callOk mi_J1_init 0 := ⟨rfl, rfl, Nat.le_of_ble_eq_true rfl, by decide, by decide, by decide +kernel⟩
theorem ent_J1_init (x : Option Nat) : entL (mL mi_J1_init) [vR x] = [some (vR x)] := rfl
/- J24_size: cut at [0, 9] -/
abbrev mi_J24_size : SmM := (yJ24_size, cJ24_size, 1, (some FieldType.int : Option FieldType), [])
theorem ok_J24_size : callOk mi_J24_size 0 := ⟨rfl, rfl, Nat.le_of_ble_eq_true rfl, by decide, by decide, by decide +kernel⟩
theorem ent_J24_size (x : Option Nat) : entL (mL mi_J24_size) [vR x] = [some (vR x)] := rfl
/- J24_comparator: cut at [0, 9] -/
abbrev mi_J24_comparator : SmM := (yJ24_comparator, cJ24_comparator, 1, (some (FieldType.object "java/util/Comparator") : Option FieldType), [])
theorem ok_J24_comparator : callOk mi_J24_comparator 0 := ⟨rfl, rfl, Nat.le_of_ble_eq_true rfl, by decide, by decide, by decide +kernel⟩
theorem ent_J24_comparator (x : Option Nat) : entL (mL mi_J24_comparator) [vR x] = [some (vR x)] := rfl
/- J25_init: cut at [0] -/
abbrev mi_J25_init : SmM := (yJ25_init, cJ25_init, 3, (none : Option FieldType), [])
theorem ok_J25_init : callOk mi_J25_init 2 := ⟨rfl, rfl, Nat.le_of_ble_eq_true rfl, by decide, by decide, by decide +kernel⟩
theorem ent_J25_init (x : Option Nat) (x0 : Option Nat) (x1 : Option Nat) : entL (mL mi_J25_init) [vR x, vR x0, vR x1] = [some (vR x), some (vR x0), some (vR x1)] := rfl
/- J25_nextEntry: cut at [0, 16, 38, 44] -/
abbrev mi_J25_nextEntry : SmM := (yJ25_nextEntry, cJ25_nextEntry, 2, (some (FieldType.object "java/util/TreeMap$Entry") : Option FieldType), [])
theorem ok_J25_nextEntry : callOk mi_J25_nextEntry 0 := ⟨rfl, rfl, Nat.le_of_ble_eq_true rfl, by decide, by decide, by decide +kernel⟩
theorem ent_J25_nextEntry (x : Option Nat) : entL (mL mi_J25_nextEntry) [vR x] = [some (vR x), none] := rfl
def tr_J2_size_0 (d : Nat) (Rq : SmQ) (l : SmL) (st : List SmV) (S : SmS) (I : SmI) : Prop :=
  im_aload 0 l st S I fun l st S I =>
  im_getR 12 0 l st S I fun l st S I =>
  im_callV 0 13 mi_J4_size d (retK mi_J2_size 4 9 d Rq l) st S I
theorem rv_J2_size_0 {d : Nat} {Rq : SmQ} {l : SmL} {st : List SmV} {S : SmS} {I : SmI} (h : tr_J2_size_0 d Rq l st S I) : SW mi_J2_size 0 d Rq l st S I :=
  (show SmW mi_J2_size 0 d Rq (tr_J2_size_0 d Rq) from
  (xv_aload_n dJ2_size_0 rfl
  (xv_getR (k := 0) dJ2_size_1 cl_12 tg_12 in_J2 (Nat.le_of_ble_eq_true rfl) rfl q1439
  (xv_callF (x := ⟨"java/util/NavigableMap", "size", "()I"⟩) (J := "java/util/Map") dJ2_size_4 cl_13 tg_13 ok_J4_size ⟨⟨by decide, by decide⟩, by decide +kernel⟩ ⟨Or.inr (List.mem_of_getElem? (i := 526) rfl), q590, Or.inr (List.mem_of_getElem? (i := 525) rfl), q591, q593, q594, q592, q551, q111, q595, Or.inr ⟨by decide, ⟨by decide, by decide⟩, q589⟩⟩)))) l st S I h
def tr_J2_size_9 (d : Nat) (Rq : SmQ) (l : SmL) (st : List SmV) (S : SmS) (I : SmI) : Prop :=
  im_ireturn Rq l st S I
theorem rv_J2_size_9 {d : Nat} {Rq : SmQ} {l : SmL} {st : List SmV} {S : SmS} {I : SmI} (h : tr_J2_size_9 d Rq l st S I) : SW mi_J2_size 9 d Rq l st S I :=
  (show SmW mi_J2_size 9 d Rq (tr_J2_size_9 d Rq) from
  (xv_ireturn dJ2_size_9 rfl)) l st S I h
def tr_J2_add_0 (d : Nat) (Rq : SmQ) (l : SmL) (st : List SmV) (S : SmS) (I : SmI) : Prop :=
  im_aload 0 l st S I fun l st S I =>
  im_getR 12 0 l st S I fun l st S I =>
  im_aload 1 l st S I fun l st S I =>
  im_present l st S I fun l st S I =>
  im_callV 2 13 mi_J4_put d (retK mi_J2_add 8 13 d Rq l) st S I
theorem rv_J2_add_0 {d : Nat} {Rq : SmQ} {l : SmL} {st : List SmV} {S : SmS} {I : SmI} (h : tr_J2_add_0 d Rq l st S I) : SW mi_J2_add 0 d Rq l st S I :=
  (show SmW mi_J2_add 0 d Rq (tr_J2_add_0 d Rq) from
  (xv_aload_n dJ2_add_0 rfl
  (xv_getR (k := 0) dJ2_add_1 cl_12 tg_12 in_J2 (Nat.le_of_ble_eq_true rfl) rfl q1439
  (xv_aload_n dJ2_add_4 rfl
  (xv_present dJ2_add_5 q1070
  (xv_callF (x := ⟨"java/util/NavigableMap", "put", "(Ljava/lang/Object;Ljava/lang/Object;)Ljava/lang/Object;"⟩) (J := "java/util/Map") dJ2_add_8 cl_13 tg_13 ok_J4_put ⟨⟨by decide, by decide⟩, by decide +kernel⟩ ⟨Or.inr (List.mem_of_getElem? (i := 528) rfl), q1074, Or.inr (List.mem_of_getElem? (i := 527) rfl), q1075, q1077, q1078, q1076, q551, q111, q1079, Or.inr ⟨by decide, ⟨by decide, by decide⟩, q1073⟩⟩)))))) l st S I h
def tr_J2_add_13 (d : Nat) (Rq : SmQ) (l : SmL) (st : List SmV) (S : SmS) (I : SmI) : Prop :=
  im_ifnn l st S I (fun l st S I =>
  im_ic 0 l st S I fun l st S I =>
  im_zreturn Rq l st S I) (fun l st S I =>
  im_ic 1 l st S I fun l st S I =>
  im_zreturn Rq l st S I)
theorem rv_J2_add_13 {d : Nat} {Rq : SmQ} {l : SmL} {st : List SmV} {S : SmS} {I : SmI} (h : tr_J2_add_13 d Rq l st S I) : SW mi_J2_add 13 d Rq l st S I :=
  (show SmW mi_J2_add 13 d Rq (tr_J2_add_13 d Rq) from
  (xv_ifnn dJ2_add_13 rfl
  (xv_iconst dJ2_add_20 rfl (inRd rfl)
  (xv_zreturn dJ2_add_21 rfl))
  (xv_iconst dJ2_add_16 rfl (inRd rfl)
  (xv_goto dJ2_add_17 rfl (xv_zreturn dJ2_add_21 rfl))))) l st S I h
def tr_J2_clear_0 (d : Nat) (Rq : SmQ) (l : SmL) (st : List SmV) (S : SmS) (I : SmI) : Prop :=
  im_aload 0 l st S I fun l st S I =>
  im_getR 12 0 l st S I fun l st S I =>
  im_callV 0 13 mi_J4_clear d (retK mi_J2_clear 4 9 d Rq l) st S I
theorem rv_J2_clear_0 {d : Nat} {Rq : SmQ} {l : SmL} {st : List SmV} {S : SmS} {I : SmI} (h : tr_J2_clear_0 d Rq l st S I) : SW mi_J2_clear 0 d Rq l st S I :=
  (show SmW mi_J2_clear 0 d Rq (tr_J2_clear_0 d Rq) from
  (xv_aload_n dJ2_clear_0 rfl
  (xv_getR (k := 0) dJ2_clear_1 cl_12 tg_12 in_J2 (Nat.le_of_ble_eq_true rfl) rfl q1439
  (xv_callF (x := ⟨"java/util/NavigableMap", "clear", "()V"⟩) (J := "java/util/Map") dJ2_clear_4 cl_13 tg_13 ok_J4_clear ⟨⟨by decide, by decide⟩, by decide +kernel⟩ ⟨Or.inr (List.mem_of_getElem? (i := 524) rfl), q550, Or.inr (List.mem_of_getElem? (i := 523) rfl), q552, q554, q555, q553, q551, q111, q556, Or.inr ⟨by decide, ⟨by decide, by decide⟩, q549⟩⟩)))) l st S I h
def tr_J2_clear_9 (d : Nat) (Rq : SmQ) (l : SmL) (st : List SmV) (S : SmS) (I : SmI) : Prop :=
  im_return Rq l st S I
theorem rv_J2_clear_9 {d : Nat} {Rq : SmQ} {l : SmL} {st : List SmV} {S : SmS} {I : SmI} (h : tr_J2_clear_9 d Rq l st S I) : SW mi_J2_clear 9 d Rq l st S I :=
  (show SmW mi_J2_clear 9 d Rq (tr_J2_clear_9 d Rq) from
  (xv_return dJ2_clear_9 rfl)) l st S I h
def tr_J2_iterator_0 (d : Nat) (Rq : SmQ) (l : SmL) (st : List SmV) (S : SmS) (I : SmI) : Prop :=
  im_aload 0 l st S I fun l st S I =>
  im_getR 12 0 l st S I fun l st S I =>
  im_callV 0 13 mi_J4_navigableKeySet d (retK mi_J2_iterator 4 9 d Rq l) st S I
theorem rv_J2_iterator_0 {d : Nat} {Rq : SmQ} {l : SmL} {st : List SmV} {S : SmS} {I : SmI} (h : tr_J2_iterator_0 d Rq l st S I) : SW mi_J2_iterator 0 d Rq l st S I :=
  (show SmW mi_J2_iterator 0 d Rq (tr_J2_iterator_0 d Rq) from
  (xv_aload_n dJ2_iterator_0 rfl
  (xv_getR (k := 0) dJ2_iterator_1 cl_12 tg_12 in_J2 (Nat.le_of_ble_eq_true rfl) rfl q1439
  (xv_callF (x := ⟨"java/util/NavigableMap", "navigableKeySet", "()Ljava/util/NavigableSet;"⟩) (J := "java/util/NavigableMap") dJ2_iterator_4 cl_13 tg_13 ok_J4_navigableKeySet ⟨⟨by decide, by decide⟩, by decide +kernel⟩ ⟨Or.inl (lw_at lw_m5 195 rfl), q1260, Or.inl q1259, q1261, q1263, q1264, q1262, q551, q111, q1265, Or.inl rfl⟩)))) l st S I h
def tr_J2_iterator_9 (d : Nat) (Rq : SmQ) (l : SmL) (st : List SmV) (S : SmS) (I : SmI) : Prop :=
  im_callV 0 15 mi_J24_iterator d (retK mi_J2_iterator 9 14 d Rq l) st S I
theorem rv_J2_iterator_9 {d : Nat} {Rq : SmQ} {l : SmL} {st : List SmV} {S : SmS} {I : SmI} (h : tr_J2_iterator_9 d Rq l st S I) : SW mi_J2_iterator 9 d Rq l st S I :=
  (show SmW mi_J2_iterator 9 d Rq (tr_J2_iterator_9 d Rq) from
  (xv_callF (x := ⟨"java/util/NavigableSet", "iterator", "()Ljava/util/Iterator;"⟩) (J := "java/util/NavigableSet") dJ2_iterator_9 cl_15 tg_15 ok_J24_iterator ⟨⟨by decide, by decide⟩, by decide +kernel⟩ ⟨Or.inl (lw_at lw_m5 220 rfl), q1285, Or.inl q1284, q1287, q1289, q1290, q1288, q1286, q142, q1291, Or.inl rfl⟩)) l st S I h
def tr_J2_iterator_14 (d : Nat) (Rq : SmQ) (l : SmL) (st : List SmV) (S : SmS) (I : SmI) : Prop :=
  im_areturn Rq l st S I
theorem rv_J2_iterator_14 {d : Nat} {Rq : SmQ} {l : SmL} {st : List SmV} {S : SmS} {I : SmI} (h : tr_J2_iterator_14 d Rq l st S I) : SW mi_J2_iterator 14 d Rq l st S I :=
  (show SmW mi_J2_iterator 14 d Rq (tr_J2_iterator_14 d Rq) from
  (xv_areturn dJ2_iterator_14 rfl rfl)) l st S I h
def tr_J4_keyIterator_0 (d : Nat) (Rq : SmQ) (l : SmL) (st : List SmV) (S : SmS) (I : SmI) : Prop :=
  im_new 16 4 l st S I fun l st S I =>
  im_dup l st S I fun l st S I =>
  im_aload 0 l st S I fun l st S I =>
  im_aload 0 l st S I fun l st S I =>
  im_callV 0 13 mi_J4_getFirstEntry d (retK mi_J4_keyIterator 6 9 d Rq l) st S I
theorem rv_J4_keyIterator_0 {d : Nat} {Rq : SmQ} {l : SmL} {st : List SmV} {S : SmS} {I : SmI} (h : tr_J4_keyIterator_0 d Rq l st S I) : SW mi_J4_keyIterator 0 d Rq l st S I :=
  (show SmW mi_J4_keyIterator 0 d Rq (tr_J4_keyIterator_0 d Rq) from
  (xv_new dJ4_keyIterator_0 cl_16 tg_16 in_J26 tyJ26_ok q1297 q1298 q144 df_16
  (xv_dup dJ4_keyIterator_3
  (xv_aload_n dJ4_keyIterator_4 rfl
  (xv_aload_n dJ4_keyIterator_5 rfl
  (xv_callV dJ4_keyIterator_6 cl_13 tg_13 ok_J4_getFirstEntry rfl (lw_V q1177 q1178 q1179 q111 q1180))))))) l st S I h
def tr_J4_keyIterator_9 (d : Nat) (Rq : SmQ) (l : SmL) (st : List SmV) (S : SmS) (I : SmI) : Prop :=
  im_callV 2 16 mi_J26_init d (retK mi_J4_keyIterator 9 12 d Rq l) st S I
theorem rv_J4_keyIterator_9 {d : Nat} {Rq : SmQ} {l : SmL} {st : List SmV} {S : SmS} {I : SmI} (h : tr_J4_keyIterator_9 d Rq l st S I) : SW mi_J4_keyIterator 9 d Rq l st S I :=
  (show SmW mi_J4_keyIterator 9 d Rq (tr_J4_keyIterator_9 d Rq) from
  (xv_callI dJ4_keyIterator_9 tg_16 ok_J26_init rfl rfl q1299 q1300 q144 q1301)) l st S I h
def tr_J4_keyIterator_12 (d : Nat) (Rq : SmQ) (l : SmL) (st : List SmV) (S : SmS) (I : SmI) : Prop :=
  im_areturn Rq l st S I
theorem rv_J4_keyIterator_12 {d : Nat} {Rq : SmQ} {l : SmL} {st : List SmV} {S : SmS} {I : SmI} (h : tr_J4_keyIterator_12 d Rq l st S I) : SW mi_J4_keyIterator 12 d Rq l st S I :=
  (show SmW mi_J4_keyIterator 12 d Rq (tr_J4_keyIterator_12 d Rq) from
  (xv_areturn dJ4_keyIterator_12 rfl rfl)) l st S I h
def tr_J4_navigableKeySet_0 (d : Nat) (Rq : SmQ) (l : SmL) (st : List SmV) (S : SmS) (I : SmI) : Prop :=
  im_aload 0 l st S I fun l st S I =>
  im_getR 13 7 l st S I fun l st S I =>
  im_astore 1 l st S I fun l st S I =>
  im_aload 1 l st S I fun l st S I =>
  im_ifnull l st S I (fun l st S I =>
  im_aload 0 l st S I fun l st S I =>
  im_new 15 1 l st S I fun l st S I =>
  im_dup l st S I fun l st S I =>
  im_aload 0 l st S I fun l st S I =>
  im_callV 1 15 mi_J24_init d (retK mi_J4_navigableKeySet 19 22 d Rq l) st S I) (fun l st S I =>
  im_aload 1 l st S I fun l st S I =>
  im_areturn Rq l st S I)
theorem rv_J4_navigableKeySet_0 {d : Nat} {Rq : SmQ} {l : SmL} {st : List SmV} {S : SmS} {I : SmI} (h : tr_J4_navigableKeySet_0 d Rq l st S I) : SW mi_J4_navigableKeySet 0 d Rq l st S I :=
  (show SmW mi_J4_navigableKeySet 0 d Rq (tr_J4_navigableKeySet_0 d Rq) from
  (xv_aload_n dJ4_navigableKeySet_0 rfl
  (xv_getR (k := 7) dJ4_navigableKeySet_1 cl_13 tg_13 in_J4 (Nat.le_of_ble_eq_true rfl) rfl q1415
  (xv_astore_n dJ4_navigableKeySet_4 rfl (Nat.le_of_ble_eq_true rfl)
  (xv_aload_n dJ4_navigableKeySet_5 rfl
  (xv_ifnull dJ4_navigableKeySet_6 rfl
  (xv_aload_n dJ4_navigableKeySet_13 rfl
  (xv_new dJ4_navigableKeySet_14 cl_15 tg_15 in_J24 tyJ24_ok q1266 q1267 q142 df_15
  (xv_dup dJ4_navigableKeySet_17
  (xv_aload_n dJ4_navigableKeySet_18 rfl
  (xv_callI dJ4_navigableKeySet_19 tg_15 ok_J24_init rfl rfl q1268 q1269 q142 q1270)))))
  (xv_aload_n dJ4_navigableKeySet_9 rfl
  (xv_goto dJ4_navigableKeySet_10 rfl (xv_areturn dJ4_navigableKeySet_26 rfl rfl))))))))) l st S I h
def tr_J4_navigableKeySet_22 (d : Nat) (Rq : SmQ) (l : SmL) (st : List SmV) (S : SmS) (I : SmI) : Prop :=
  im_dup_x1 l st S I fun l st S I =>
  im_putR 13 7 l st S I fun l st S I =>
  im_areturn Rq l st S I
theorem rv_J4_navigableKeySet_22 {d : Nat} {Rq : SmQ} {l : SmL} {st : List SmV} {S : SmS} {I : SmI} (h : tr_J4_navigableKeySet_22 d Rq l st S I) : SW mi_J4_navigableKeySet 22 d Rq l st S I :=
  (show SmW mi_J4_navigableKeySet 22 d Rq (tr_J4_navigableKeySet_22 d Rq) from
  (xv_dup_x1 dJ4_navigableKeySet_22
  (xv_putR (k := 7) dJ4_navigableKeySet_23 cl_13 tg_13 in_J4 tyJ4_ok nmJ4 (Nat.le_of_ble_eq_true rfl) rfl ⟨Or.inl q1415, Or.inl rfl⟩
  (xv_areturn dJ4_navigableKeySet_26 rfl rfl)))) l st S I h
def tr_J24_init_0 (d : Nat) (Rq : SmQ) (l : SmL) (st : List SmV) (S : SmS) (I : SmI) : Prop :=
  im_aload 0 l st S I fun l st S I =>
  im_callV 0 12 mi_J1_init d (retK mi_J24_init 1 4 d Rq l) st S I
theorem rv_J24_init_0 {d : Nat} {Rq : SmQ} {l : SmL} {st : List SmV} {S : SmS} {I : SmI} (h : tr_J24_init_0 d Rq l st S I) : SW mi_J24_init 0 d Rq l st S I :=
  (show SmW mi_J24_init 0 d Rq (tr_J24_init_0 d Rq) from
  (xv_aload_n dJ24_init_0 rfl
  (xv_callI dJ24_init_1 tg_12 ok_J1_init rfl rfl q1271 q1272 q108 q1273))) l st S I h
def tr_J24_init_4 (d : Nat) (Rq : SmQ) (l : SmL) (st : List SmV) (S : SmS) (I : SmI) : Prop :=
  im_aload 0 l st S I fun l st S I =>
  im_aload 1 l st S I fun l st S I =>
  im_putR 15 0 l st S I fun l st S I =>
  im_return Rq l st S I
theorem rv_J24_init_4 {d : Nat} {Rq : SmQ} {l : SmL} {st : List SmV} {S : SmS} {I : SmI} (h : tr_J24_init_4 d Rq l st S I) : SW mi_J24_init 4 d Rq l st S I :=
  (show SmW mi_J24_init 4 d Rq (tr_J24_init_4 d Rq) from
  (xv_aload_n dJ24_init_4 rfl
  (xv_aload_n dJ24_init_5 rfl
  (xv_putR (k := 0) dJ24_init_6 cl_15 tg_15 in_J24 tyJ24_ok nmJ24 (Nat.le_of_ble_eq_true rfl) rfl ⟨Or.inl q1278, Or.inr ⟨rfl, rfl, rfl⟩⟩
  (xv_return dJ24_init_9 rfl))))) l st S I h
def tr_J24_iterator_0 (d : Nat) (Rq : SmQ) (l : SmL) (st : List SmV) (S : SmS) (I : SmI) : Prop :=
  im_aload 0 l st S I fun l st S I =>
  im_getR 15 0 l st S I fun l st S I =>
  im_instO [13] l st S I fun l st S I =>
  im_zeq l st S I (fun l st S I =>
  im_aload 0 l st S I fun l st S I =>
  im_getR 15 0 l st S I fun l st S I =>
  False) (fun l st S I =>
  im_aload 0 l st S I fun l st S I =>
  im_getR 15 0 l st S I fun l st S I =>
  im_castO [13] l st S I fun l st S I =>
  im_callV 0 13 mi_J4_keyIterator d (retK mi_J24_iterator 17 20 d Rq l) st S I)
theorem rv_J24_iterator_0 {d : Nat} {Rq : SmQ} {l : SmL} {st : List SmV} {S : SmS} {I : SmI} (h : tr_J24_iterator_0 d Rq l st S I) : SW mi_J24_iterator 0 d Rq l st S I :=
  (show SmW mi_J24_iterator 0 d Rq (tr_J24_iterator_0 d Rq) from
  (xv_aload_n dJ24_iterator_0 rfl
  (xv_getR (k := 0) dJ24_iterator_1 cl_15 tg_15 in_J24 (Nat.le_of_ble_eq_true rfl) rfl q1278
  (xv_instO dJ24_iterator_4 q1292 (fun t h => by cases List.mem_singleton.mp h; exact ⟨_, _, _, ⟨(Nat.le_of_ble_eq_true rfl), (Nat.le_of_ble_eq_true rfl)⟩, cl_13, Or.inl rfl⟩)
  (xv_zeq dJ24_iterator_7 rfl
  (xv_aload_n dJ24_iterator_21 rfl
  (xv_getR (k := 0) dJ24_iterator_22 cl_15 tg_15 in_J24 (Nat.le_of_ble_eq_true rfl) rfl q1278
  (fun _ _ _ _ h => h.elim)))
  (xv_aload_n dJ24_iterator_10 rfl
  (xv_getR (k := 0) dJ24_iterator_11 cl_15 tg_15 in_J24 (Nat.le_of_ble_eq_true rfl) rfl q1278
  (xv_castO dJ24_iterator_14 q1292 (fun t h => by cases List.mem_singleton.mp h; exact ⟨_, _, _, ⟨(Nat.le_of_ble_eq_true rfl), (Nat.le_of_ble_eq_true rfl)⟩, cl_13, Or.inl rfl⟩)
  (xv_callV dJ24_iterator_17 cl_13 tg_13 ok_J4_keyIterator rfl (lw_V q1293 q1294 q1295 q111 q1296)))))))))) l st S I h
def tr_J24_iterator_20 (d : Nat) (Rq : SmQ) (l : SmL) (st : List SmV) (S : SmS) (I : SmI) : Prop :=
  im_areturn Rq l st S I
theorem rv_J24_iterator_20 {d : Nat} {Rq : SmQ} {l : SmL} {st : List SmV} {S : SmS} {I : SmI} (h : tr_J24_iterator_20 d Rq l st S I) : SW mi_J24_iterator 20 d Rq l st S I :=
  (show SmW mi_J24_iterator 20 d Rq (tr_J24_iterator_20 d Rq) from
  (xv_areturn dJ24_iterator_20 rfl rfl)) l st S I h
def tr_J24_iterator_31 (d : Nat) (Rq : SmQ) (l : SmL) (st : List SmV) (S : SmS) (I : SmI) : Prop :=
  im_areturn Rq l st S I
theorem rv_J24_iterator_31 {d : Nat} {Rq : SmQ} {l : SmL} {st : List SmV} {S : SmS} {I : SmI} (h : tr_J24_iterator_31 d Rq l st S I) : SW mi_J24_iterator 31 d Rq l st S I :=
  (show SmW mi_J24_iterator 31 d Rq (tr_J24_iterator_31 d Rq) from
  (xv_areturn dJ24_iterator_31 rfl rfl)) l st S I h
def tr_J24_size_0 (d : Nat) (Rq : SmQ) (l : SmL) (st : List SmV) (S : SmS) (I : SmI) : Prop :=
  im_aload 0 l st S I fun l st S I =>
  im_getR 15 0 l st S I fun l st S I =>
  im_callV 0 13 mi_J4_size d (retK mi_J24_size 4 9 d Rq l) st S I
theorem rv_J24_size_0 {d : Nat} {Rq : SmQ} {l : SmL} {st : List SmV} {S : SmS} {I : SmI} (h : tr_J24_size_0 d Rq l st S I) : SW mi_J24_size 0 d Rq l st S I :=
  (show SmW mi_J24_size 0 d Rq (tr_J24_size_0 d Rq) from
  (xv_aload_n dJ24_size_0 rfl
  (xv_getR (k := 0) dJ24_size_1 cl_15 tg_15 in_J24 (Nat.le_of_ble_eq_true rfl) rfl q1278
  (xv_callF (x := ⟨"java/util/NavigableMap", "size", "()I"⟩) (J := "java/util/Map") dJ24_size_4 cl_13 tg_13 ok_J4_size ⟨⟨by decide, by decide⟩, by decide +kernel⟩ ⟨Or.inr (List.mem_of_getElem? (i := 530) rfl), q590, Or.inr (List.mem_of_getElem? (i := 525) rfl), q591, q593, q594, q592, q551, q111, q595, Or.inr ⟨by decide, ⟨by decide, by decide⟩, q589⟩⟩)))) l st S I h
def tr_J24_size_9 (d : Nat) (Rq : SmQ) (l : SmL) (st : List SmV) (S : SmS) (I : SmI) : Prop :=
  im_ireturn Rq l st S I
theorem rv_J24_size_9 {d : Nat} {Rq : SmQ} {l : SmL} {st : List SmV} {S : SmS} {I : SmI} (h : tr_J24_size_9 d Rq l st S I) : SW mi_J24_size 9 d Rq l st S I :=
  (show SmW mi_J24_size 9 d Rq (tr_J24_size_9 d Rq) from
  (xv_ireturn dJ24_size_9 rfl)) l st S I h
def tr_J24_comparator_0 (d : Nat) (Rq : SmQ) (l : SmL) (st : List SmV) (S : SmS) (I : SmI) : Prop :=
  im_aload 0 l st S I fun l st S I =>
  im_getR 15 0 l st S I fun l st S I =>
  im_callV 0 13 mi_J4_comparator d (retK mi_J24_comparator 4 9 d Rq l) st S I
theorem rv_J24_comparator_0 {d : Nat} {Rq : SmQ} {l : SmL} {st : List SmV} {S : SmS} {I : SmI} (h : tr_J24_comparator_0 d Rq l st S I) : SW mi_J24_comparator 0 d Rq l st S I :=
  (show SmW mi_J24_comparator 0 d Rq (tr_J24_comparator_0 d Rq) from
  (xv_aload_n dJ24_comparator_0 rfl
  (xv_getR (k := 0) dJ24_comparator_1 cl_15 tg_15 in_J24 (Nat.le_of_ble_eq_true rfl) rfl q1278
  (xv_callF (x := ⟨"java/util/NavigableMap", "comparator", "()Ljava/util/Comparator;"⟩) (J := "java/util/SortedMap") dJ24_comparator_4 cl_13 tg_13 ok_J4_comparator ⟨⟨by decide, by decide⟩, by decide +kernel⟩ ⟨Or.inr (List.mem_of_getElem? (i := 532) rfl), q1494, Or.inr (List.mem_of_getElem? (i := 531) rfl), q1495, q1497, q1498, q1496, q551, q111, q1499, Or.inr ⟨by decide, ⟨by decide, by decide⟩, q1493⟩⟩)))) l st S I h
def tr_J24_comparator_9 (d : Nat) (Rq : SmQ) (l : SmL) (st : List SmV) (S : SmS) (I : SmI) : Prop :=
  im_areturn Rq l st S I
theorem rv_J24_comparator_9 {d : Nat} {Rq : SmQ} {l : SmL} {st : List SmV} {S : SmS} {I : SmI} (h : tr_J24_comparator_9 d Rq l st S I) : SW mi_J24_comparator 9 d Rq l st S I :=
  (show SmW mi_J24_comparator 9 d Rq (tr_J24_comparator_9 d Rq) from
  (xv_areturn dJ24_comparator_9 rfl rfl)) l st S I h
def tr_J25_init_0 (d : Nat) (Rq : SmQ) (l : SmL) (st : List SmV) (S : SmS) (I : SmI) : Prop :=
  im_aload 0 l st S I fun l st S I =>
  im_aload 1 l st S I fun l st S I =>
  im_putR 16 3 l st S I fun l st S I =>
  im_aload 0 l st S I fun l st S I =>
  im_objinit l st S I fun l st S I =>
  im_aload 0 l st S I fun l st S I =>
  im_aload 1 l st S I fun l st S I =>
  im_getI 13 5 l st S I fun l st S I =>
  im_putI 16 2 l st S I fun l st S I =>
  im_aload 0 l st S I fun l st S I =>
  im_nul l st S I fun l st S I =>
  im_putR 16 1 l st S I fun l st S I =>
  im_aload 0 l st S I fun l st S I =>
  im_aload 2 l st S I fun l st S I =>
  im_putR 16 0 l st S I fun l st S I =>
  im_return Rq l st S I
theorem rv_J25_init_0 {d : Nat} {Rq : SmQ} {l : SmL} {st : List SmV} {S : SmS} {I : SmI} (h : tr_J25_init_0 d Rq l st S I) : SW mi_J25_init 0 d Rq l st S I :=
  (show SmW mi_J25_init 0 d Rq (tr_J25_init_0 d Rq) from
  (xv_aload_n dJ25_init_0 rfl
  (xv_aload_n dJ25_init_1 rfl
  (xv_putR (k := 3) dJ25_init_2 cl_16 tg_16 in_J26 tyJ26_ok nmJ26 (Nat.le_of_ble_eq_true rfl) rfl ⟨Or.inl q1309, Or.inr ⟨rfl, rfl, rfl⟩⟩
  (xv_aload_n dJ25_init_5 rfl
  (xv_objinit dJ25_init_6 q1305 q177 q178
  (xv_aload_n dJ25_init_9 rfl
  (xv_aload_n dJ25_init_10 rfl
  (xv_getIN (k := 5) dJ25_init_11 cl_13 tg_13 in_J4 (Nat.le_of_ble_eq_true rfl) rfl q1414
  (xv_putI (k := 2) dJ25_init_14 cl_16 tg_16 in_J26 tyJ26_ok nmJ26 (Nat.le_of_ble_eq_true rfl) rfl ⟨Or.inl q1308, Or.inl rfl⟩
  (xv_aload_n dJ25_init_17 rfl
  (xv_nul dJ25_init_18
  (xv_putR (k := 1) dJ25_init_19 cl_16 tg_16 in_J26 tyJ26_ok nmJ26 (Nat.le_of_ble_eq_true rfl) rfl ⟨Or.inl q1307, Or.inl rfl⟩
  (xv_aload_n dJ25_init_22 rfl
  (xv_aload_n dJ25_init_23 rfl
  (xv_putR (k := 0) dJ25_init_24 cl_16 tg_16 in_J26 tyJ26_ok nmJ26 (Nat.le_of_ble_eq_true rfl) rfl ⟨Or.inl q1306, Or.inl rfl⟩
  (xv_return dJ25_init_27 rfl))))))))))))))))) l st S I h
def tr_J25_hasNext_0 (d : Nat) (Rq : SmQ) (l : SmL) (st : List SmV) (S : SmS) (I : SmI) : Prop :=
  im_aload 0 l st S I fun l st S I =>
  im_getR 16 0 l st S I fun l st S I =>
  im_ifnull l st S I (fun l st S I =>
  im_ic 0 l st S I fun l st S I =>
  im_zreturn Rq l st S I) (fun l st S I =>
  im_ic 1 l st S I fun l st S I =>
  im_zreturn Rq l st S I)
theorem rv_J25_hasNext_0 {d : Nat} {Rq : SmQ} {l : SmL} {st : List SmV} {S : SmS} {I : SmI} (h : tr_J25_hasNext_0 d Rq l st S I) : SW mi_J25_hasNext 0 d Rq l st S I :=
  (show SmW mi_J25_hasNext 0 d Rq (tr_J25_hasNext_0 d Rq) from
  (xv_aload_n dJ25_hasNext_0 rfl
  (xv_getR (k := 0) dJ25_hasNext_1 cl_16 tg_16 in_J26 (Nat.le_of_ble_eq_true rfl) rfl q1306
  (xv_ifnull dJ25_hasNext_4 rfl
  (xv_iconst dJ25_hasNext_11 rfl (inRd rfl)
  (xv_zreturn dJ25_hasNext_12 rfl))
  (xv_iconst dJ25_hasNext_7 rfl (inRd rfl)
  (xv_goto dJ25_hasNext_8 rfl (xv_zreturn dJ25_hasNext_12 rfl))))))) l st S I h
def tr_J25_nextEntry_0 (d : Nat) (Rq : SmQ) (l : SmL) (st : List SmV) (S : SmS) (I : SmI) : Prop :=
  im_aload 0 l st S I fun l st S I =>
  im_getR 16 0 l st S I fun l st S I =>
  im_astore 1 l st S I fun l st S I =>
  im_aload 1 l st S I fun l st S I =>
  im_ifnn l st S I (fun l st S I =>
  im_aload 0 l st S I fun l st S I =>
  im_getR 16 3 l st S I fun l st S I =>
  im_getI 13 5 l st S I fun l st S I =>
  im_aload 0 l st S I fun l st S I =>
  im_getI 16 2 l st S I fun l st S I =>
  im_ceq l st S I (fun l st S I =>
  im_aload 0 l st S I fun l st S I =>
  im_aload 1 l st S I fun l st S I =>
  im_callS 1 mi_J4_successor d (retK mi_J25_nextEntry 41 44 d Rq l) st S I) (fun l st S I =>
  False)) (fun l st S I =>
  False)
theorem rv_J25_nextEntry_0 {d : Nat} {Rq : SmQ} {l : SmL} {st : List SmV} {S : SmS} {I : SmI} (h : tr_J25_nextEntry_0 d Rq l st S I) : SW mi_J25_nextEntry 0 d Rq l st S I :=
  (show SmW mi_J25_nextEntry 0 d Rq (tr_J25_nextEntry_0 d Rq) from
  (xv_aload_n dJ25_nextEntry_0 rfl
  (xv_getR (k := 0) dJ25_nextEntry_1 cl_16 tg_16 in_J26 (Nat.le_of_ble_eq_true rfl) rfl q1306
  (xv_astore_n dJ25_nextEntry_4 rfl (Nat.le_of_ble_eq_true rfl)
  (xv_aload_n dJ25_nextEntry_5 rfl
  (xv_ifnn dJ25_nextEntry_6 rfl
  (xv_aload_n dJ25_nextEntry_17 rfl
  (xv_getR (k := 3) dJ25_nextEntry_18 cl_16 tg_16 in_J26 (Nat.le_of_ble_eq_true rfl) rfl q1309
  (xv_getIN (k := 5) dJ25_nextEntry_21 cl_13 tg_13 in_J4 (Nat.le_of_ble_eq_true rfl) rfl q1414
  (xv_aload_n dJ25_nextEntry_24 rfl
  (xv_getI (k := 2) dJ25_nextEntry_25 cl_16 tg_16 in_J26 (Nat.le_of_ble_eq_true rfl) rfl q1308
  (xv_ceq dJ25_nextEntry_28 rfl
  (xv_aload_n dJ25_nextEntry_39 rfl
  (xv_aload_n dJ25_nextEntry_40 rfl
  (xv_callS dJ25_nextEntry_41 ok_J4_successor (lw_S q1381 q1232 q111 q1233))))
  (fun _ _ _ _ h => h.elim)))))))
  (fun _ _ _ _ h => h.elim))))))) l st S I h
def tr_J25_nextEntry_16 (d : Nat) (Rq : SmQ) (l : SmL) (st : List SmV) (S : SmS) (I : SmI) : Prop :=
  im_athrow mi_J25_nextEntry 16 d Rq l st S I
theorem rv_J25_nextEntry_16 {d : Nat} {Rq : SmQ} {l : SmL} {st : List SmV} {S : SmS} {I : SmI} (h : tr_J25_nextEntry_16 d Rq l st S I) : SW mi_J25_nextEntry 16 d Rq l st S I :=
  (show SmW mi_J25_nextEntry 16 d Rq (tr_J25_nextEntry_16 d Rq) from
  (xv_athrow dJ25_nextEntry_16)) l st S I h
def tr_J25_nextEntry_38 (d : Nat) (Rq : SmQ) (l : SmL) (st : List SmV) (S : SmS) (I : SmI) : Prop :=
  im_athrow mi_J25_nextEntry 38 d Rq l st S I
theorem rv_J25_nextEntry_38 {d : Nat} {Rq : SmQ} {l : SmL} {st : List SmV} {S : SmS} {I : SmI} (h : tr_J25_nextEntry_38 d Rq l st S I) : SW mi_J25_nextEntry 38 d Rq l st S I :=
  (show SmW mi_J25_nextEntry 38 d Rq (tr_J25_nextEntry_38 d Rq) from
  (xv_athrow dJ25_nextEntry_38)) l st S I h
def tr_J25_nextEntry_44 (d : Nat) (Rq : SmQ) (l : SmL) (st : List SmV) (S : SmS) (I : SmI) : Prop :=
  im_putR 16 0 l st S I fun l st S I =>
  im_aload 0 l st S I fun l st S I =>
  im_aload 1 l st S I fun l st S I =>
  im_putR 16 1 l st S I fun l st S I =>
  im_aload 1 l st S I fun l st S I =>
  im_areturn Rq l st S I
theorem rv_J25_nextEntry_44 {d : Nat} {Rq : SmQ} {l : SmL} {st : List SmV} {S : SmS} {I : SmI} (h : tr_J25_nextEntry_44 d Rq l st S I) : SW mi_J25_nextEntry 44 d Rq l st S I :=
  (show SmW mi_J25_nextEntry 44 d Rq (tr_J25_nextEntry_44 d Rq) from
  (xv_putR (k := 0) dJ25_nextEntry_44 cl_16 tg_16 in_J26 tyJ26_ok nmJ26 (Nat.le_of_ble_eq_true rfl) rfl ⟨Or.inl q1306, Or.inl rfl⟩
  (xv_aload_n dJ25_nextEntry_47 rfl
  (xv_aload_n dJ25_nextEntry_48 rfl
  (xv_putR (k := 1) dJ25_nextEntry_49 cl_16 tg_16 in_J26 tyJ26_ok nmJ26 (Nat.le_of_ble_eq_true rfl) rfl ⟨Or.inl q1307, Or.inl rfl⟩
  (xv_aload_n dJ25_nextEntry_52 rfl
  (xv_areturn dJ25_nextEntry_53 rfl rfl))))))) l st S I h
def tr_J26_init_0 (d : Nat) (Rq : SmQ) (l : SmL) (st : List SmV) (S : SmS) (I : SmI) : Prop :=
  im_aload 0 l st S I fun l st S I =>
  im_aload 1 l st S I fun l st S I =>
  im_aload 2 l st S I fun l st S I =>
  im_callV 2 16 mi_J25_init d (retK mi_J26_init 3 6 d Rq l) st S I
theorem rv_J26_init_0 {d : Nat} {Rq : SmQ} {l : SmL} {st : List SmV} {S : SmS} {I : SmI} (h : tr_J26_init_0 d Rq l st S I) : SW mi_J26_init 0 d Rq l st S I :=
  (show SmW mi_J26_init 0 d Rq (tr_J26_init_0 d Rq) from
  (xv_aload_n dJ26_init_0 rfl
  (xv_aload_n dJ26_init_1 rfl
  (xv_aload_n dJ26_init_2 rfl
  (xv_callI dJ26_init_3 tg_16 ok_J25_init rfl rfl q1302 q1303 q143 q1304))))) l st S I h
def tr_J26_init_6 (d : Nat) (Rq : SmQ) (l : SmL) (st : List SmV) (S : SmS) (I : SmI) : Prop :=
  im_return Rq l st S I
theorem rv_J26_init_6 {d : Nat} {Rq : SmQ} {l : SmL} {st : List SmV} {S : SmS} {I : SmI} (h : tr_J26_init_6 d Rq l st S I) : SW mi_J26_init 6 d Rq l st S I :=
  (show SmW mi_J26_init 6 d Rq (tr_J26_init_6 d Rq) from
  (xv_return dJ26_init_6 rfl)) l st S I h
def tr_J26_next_0 (d : Nat) (Rq : SmQ) (l : SmL) (st : List SmV) (S : SmS) (I : SmI) : Prop :=
  im_aload 0 l st S I fun l st S I =>
  im_callV 0 16 mi_J25_nextEntry d (retK mi_J26_next 1 4 d Rq l) st S I
theorem rv_J26_next_0 {d : Nat} {Rq : SmQ} {l : SmL} {st : List SmV} {S : SmS} {I : SmI} (h : tr_J26_next_0 d Rq l st S I) : SW mi_J26_next 0 d Rq l st S I :=
  (show SmW mi_J26_next 0 d Rq (tr_J26_next_0 d Rq) from
  (xv_aload_n dJ26_next_0 rfl
  (xv_callU (x := ⟨"java/util/TreeMap$KeyIterator", "nextEntry", "()Ljava/util/TreeMap$Entry;"⟩) dJ26_next_1 cl_16 tg_16 ok_J25_nextEntry rfl (wsU_in q1375 q1376 q1378 q1379 q143 q1380)))) l st S I h
def tr_J26_next_4 (d : Nat) (Rq : SmQ) (l : SmL) (st : List SmV) (S : SmS) (I : SmI) : Prop :=
  im_getR 14 0 l st S I fun l st S I =>
  im_areturn Rq l st S I
theorem rv_J26_next_4 {d : Nat} {Rq : SmQ} {l : SmL} {st : List SmV} {S : SmS} {I : SmI} (h : tr_J26_next_4 d Rq l st S I) : SW mi_J26_next 4 d Rq l st S I :=
  (show SmW mi_J26_next 4 d Rq (tr_J26_next_4 d Rq) from
  (xv_getR (k := 0) dJ26_next_4 cl_14 tg_14 in_J21 (Nat.le_of_ble_eq_true rfl) rfl q1105
  (xv_areturn dJ26_next_7 rfl rfl))) l st S I h
