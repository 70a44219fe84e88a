/-! regions of methods, printed by gen/regions.py -/
set_option maxRecDepth 100000
/- J4_parentOf: cut at [0] -/
abbrev mi_J4_parentOf : SmM := (yJ4_parentOf, cJ4_parentOf, 1, (some (FieldType.object "java/util/TreeMap$Entry") : Option FieldType), [])
theorem ok_J4_parentOf : callOk mi_J4_parentOf 1 := ⟨rfl, rfl, Nat.le_of_ble_eq_true rfl, by decide, by decide, by decide +kernel⟩
theorem ent_J4_parentOf (x0 : Option Nat) : entL (mL mi_J4_parentOf) [vR x0] = [some (vR x0)] := rfl
/- J4_leftOf: cut at [0] -/
abbrev mi_J4_leftOf : SmM := (yJ4_leftOf, cJ4_leftOf, 1, (some (FieldType.object "java/util/TreeMap$Entry") : Option FieldType), [])
theorem ok_J4_leftOf : callOk mi_J4_leftOf 1 := ⟨rfl, rfl, Nat.le_of_ble_eq_true rfl, by decide, by decide, by decide +kernel⟩
theorem ent_J4_leftOf (x0 : Option Nat) : entL (mL mi_J4_leftOf) [vR x0] = [some (vR x0)] := rfl
/- J4_rightOf: cut at [0] -/
abbrev mi_J4_rightOf : SmM := (yJ4_rightOf, cJ4_rightOf, 1, (some (FieldType.object "java/util/TreeMap$Entry") : Option FieldType), [])
theorem ok_J4_rightOf : callOk mi_J4_rightOf 1 := ⟨rfl, rfl, Nat.le_of_ble_eq_true rfl, by decide, by decide, by decide +kernel⟩
theorem ent_J4_rightOf (x0 : Option Nat) : entL (mL mi_J4_rightOf) [vR x0] = [some (vR x0)] := rfl
/- J4_colorOf: cut at [0] -/
abbrev mi_J4_colorOf : SmM := (yJ4_colorOf, cJ4_colorOf, 1, (some FieldType.boolean : Option FieldType), [])
theorem ok_J4_colorOf : callOk mi_J4_colorOf 1 := ⟨rfl, rfl, Nat.le_of_ble_eq_true rfl, by decide, by decide, by decide +kernel⟩
theorem ent_J4_colorOf (x0 : Option Nat) : entL (mL mi_J4_colorOf) [vR x0] = [some (vR x0)] := rfl
def tr_J4_parentOf_0 (d : Nat) (Rq : SmQ) (l : SmL) (st : List SmV) (S : SmS) (I : SmI) : Prop :=
  im_aload 0 l st S I fun l st S I =>
  im_ifnn l st S I (fun l st S I =>
  im_aload 0 l st S I fun l st S I =>
  im_getR 14 4 l st S I fun l st S I =>
  im_areturn Rq l st S I) (fun l st S I =>
  im_nul l st S I fun l st S I =>
  im_areturn Rq l st S I)
theorem rv_J4_parentOf_0 {d : Nat} {Rq : SmQ} {l : SmL} {st : List SmV} {S : SmS} {I : SmI} (h : tr_J4_parentOf_0 d Rq l st S I) : SW mi_J4_parentOf 0 d Rq l st S I :=
  (show SmW mi_J4_parentOf 0 d Rq (tr_J4_parentOf_0 d Rq) from
  (xv_aload_n dJ4_parentOf_0 rfl
  (xv_ifnn dJ4_parentOf_1 rfl
  (xv_aload_n dJ4_parentOf_8 rfl
  (xv_getR (k := 4) dJ4_parentOf_9 cl_14 tg_14 in_J21 (Nat.le_of_ble_eq_true rfl) rfl q1112
  (xv_areturn dJ4_parentOf_12 rfl rfl)))
  (xv_nul dJ4_parentOf_4
  (xv_goto dJ4_parentOf_5 rfl (xv_areturn dJ4_parentOf_12 rfl rfl)))))) l st S I h
def tr_J4_leftOf_0 (d : Nat) (Rq : SmQ) (l : SmL) (st : List SmV) (S : SmS) (I : SmI) : Prop :=
  im_aload 0 l st S I fun l st S I =>
  im_ifnn l st S I (fun l st S I =>
  im_aload 0 l st S I fun l st S I =>
  im_getR 14 2 l st S I fun l st S I =>
  im_areturn Rq l st S I) (fun l st S I =>
  im_nul l st S I fun l st S I =>
  im_areturn Rq l st S I)
theorem rv_J4_leftOf_0 {d : Nat} {Rq : SmQ} {l : SmL} {st : List SmV} {S : SmS} {I : SmI} (h : tr_J4_leftOf_0 d Rq l st S I) : SW mi_J4_leftOf 0 d Rq l st S I :=
  (show SmW mi_J4_leftOf 0 d Rq (tr_J4_leftOf_0 d Rq) from
  (xv_aload_n dJ4_leftOf_0 rfl
  (xv_ifnn dJ4_leftOf_1 rfl
  (xv_aload_n dJ4_leftOf_8 rfl
  (xv_getR (k := 2) dJ4_leftOf_9 cl_14 tg_14 in_J21 (Nat.le_of_ble_eq_true rfl) rfl q1109
  (xv_areturn dJ4_leftOf_12 rfl rfl)))
  (xv_nul dJ4_leftOf_4
  (xv_goto dJ4_leftOf_5 rfl (xv_areturn dJ4_leftOf_12 rfl rfl)))))) l st S I h
def tr_J4_rightOf_0 (d : Nat) (Rq : SmQ) (l : SmL) (st : List SmV) (S : SmS) (I : SmI) : Prop :=
  im_aload 0 l st S I fun l st S I =>
  im_ifnn l st S I (fun l st S I =>
  im_aload 0 l st S I fun l st S I =>
  im_getR 14 3 l st S I fun l st S I =>
  im_areturn Rq l st S I) (fun l st S I =>
  im_nul l st S I fun l st S I =>
  im_areturn Rq l st S I)
theorem rv_J4_rightOf_0 {d : Nat} {Rq : SmQ} {l : SmL} {st : List SmV} {S : SmS} {I : SmI} (h : tr_J4_rightOf_0 d Rq l st S I) : SW mi_J4_rightOf 0 d Rq l st S I :=
  (show SmW mi_J4_rightOf 0 d Rq (tr_J4_rightOf_0 d Rq) from
  (xv_aload_n dJ4_rightOf_0 rfl
  (xv_ifnn dJ4_rightOf_1 rfl
  (xv_aload_n dJ4_rightOf_8 rfl
  (xv_getR (k := 3) dJ4_rightOf_9 cl_14 tg_14 in_J21 (Nat.le_of_ble_eq_true rfl) rfl q1110
  (xv_areturn dJ4_rightOf_12 rfl rfl)))
  (xv_nul dJ4_rightOf_4
  (xv_goto dJ4_rightOf_5 rfl (xv_areturn dJ4_rightOf_12 rfl rfl)))))) l st S I h
def tr_J4_colorOf_0 (d : Nat) (Rq : SmQ) (l : SmL) (st : List SmV) (S : SmS) (I : SmI) : Prop :=
  im_aload 0 l st S I fun l st S I =>
  im_ifnn l st S I (fun l st S I =>
  im_aload 0 l st S I fun l st S I =>
  im_getI 14 5 l st S I fun l st S I =>
  im_zreturn Rq l st S I) (fun l st S I =>
  im_ic 1 l st S I fun l st S I =>
  im_zreturn Rq l st S I)
theorem rv_J4_colorOf_0 {d : Nat} {Rq : SmQ} {l : SmL} {st : List SmV} {S : SmS} {I : SmI} (h : tr_J4_colorOf_0 d Rq l st S I) : SW mi_J4_colorOf 0 d Rq l st S I :=
  (show SmW mi_J4_colorOf 0 d Rq (tr_J4_colorOf_0 d Rq) from
  (xv_aload_n dJ4_colorOf_0 rfl
  (xv_ifnn dJ4_colorOf_1 rfl
  (xv_aload_n dJ4_colorOf_8 rfl
  (xv_getI (k := 5) dJ4_colorOf_9 cl_14 tg_14 in_J21 (Nat.le_of_ble_eq_true rfl) rfl q1114
  (xv_zreturn dJ4_colorOf_12 rfl)))
  (xv_iconst dJ4_colorOf_4 rfl (inRd rfl)
  (xv_goto dJ4_colorOf_5 rfl (xv_zreturn dJ4_colorOf_12 rfl)))))) l st S I h
