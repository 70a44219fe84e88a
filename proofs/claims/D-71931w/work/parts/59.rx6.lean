/-! regions of methods, printed by gen/regions.py -/
set_option maxRecDepth 100000
/- X6_firstStuck: cut at [0, 8, 17, 19] -/
abbrev mi_X6_firstStuck : SmM := (yX6_firstStuck, cX6_firstStuck, 3, (some FieldType.int : Option FieldType), [])
theorem ok_X6_firstStuck : callOk mi_X6_firstStuck 1 := ⟨rfl, rfl, Nat.le_of_ble_eq_true rfl, by decide, by decide, by decide +kernel⟩
theorem ent_X6_firstStuck (x : Option Nat) (x0 : Int) : entL (mL mi_X6_firstStuck) [vR x, vI x0] = [some (vR x), some (vI x0), none] := rfl
/- X6_who: cut at [0, 18, 30, 78, 84] -/
abbrev mi_X6_who : SmM := (yX6_who, cX6_who, 3, (some FieldType.int : Option FieldType), [])
theorem ok_X6_who : callOk mi_X6_who 1 := ⟨rfl, rfl, Nat.le_of_ble_eq_true rfl, by decide, by decide, by decide +kernel⟩
theorem ent_X6_who (x : Option Nat) (x0 : Int) : entL (mL mi_X6_who) [vR x, vI x0] = [some (vR x), some (vI x0), none] := rfl
def tr_X6_firstBy_0 (d : Nat) (Rq : SmQ) (l : SmL) (st : List SmV) (S : SmS) (I : SmI) : Prop :=
  im_ic (-4) l st S I fun l st S I =>
  im_istore 2 l st S I fun l st S I =>
  im_ic 0 l st S I fun l st S I =>
  im_istore 3 l st S I fun l st S I =>
  SW mi_X6_firstBy 5 d Rq l st S I
theorem rv_X6_firstBy_0 {d : Nat} {Rq : SmQ} {l : SmL} {st : List SmV} {S : SmS} {I : SmI} (h : tr_X6_firstBy_0 d Rq l st S I) : SW mi_X6_firstBy 0 d Rq l st S I :=
  (show SmW mi_X6_firstBy 0 d Rq (tr_X6_firstBy_0 d Rq) from
  (xv_bipush dX6_firstBy_0 rfl (inRd rfl)
  (xv_istore_n dX6_firstBy_2 rfl (Nat.le_of_ble_eq_true rfl)
  (xv_iconst dX6_firstBy_3 rfl (inRd rfl)
  (xv_istore_n dX6_firstBy_4 rfl (Nat.le_of_ble_eq_true rfl)
  (fun _ _ _ _ h => h)))))) l st S I h
def tr_X6_firstBy_5 (d : Nat) (Rq : SmQ) (l : SmL) (st : List SmV) (S : SmS) (I : SmI) : Prop :=
  im_iload 3 l st S I fun l st S I =>
  im_aload 0 l st S I fun l st S I =>
  im_getR 11 0 l st S I fun l st S I =>
  im_ic 1 l st S I fun l st S I =>
  im_ald 100 l st S I fun l st S I =>
  im_cge l st S I (fun l st S I =>
  im_iload 2 l st S I fun l st S I =>
  im_ireturn Rq l st S I) (fun l st S I =>
  im_aload 0 l st S I fun l st S I =>
  im_iload 3 l st S I fun l st S I =>
  im_callV 1 11 mi_X6_against d (retK mi_X6_firstBy 17 20 d Rq l) st S I)
theorem rv_X6_firstBy_5 {d : Nat} {Rq : SmQ} {l : SmL} {st : List SmV} {S : SmS} {I : SmI} (h : tr_X6_firstBy_5 d Rq l st S I) : SW mi_X6_firstBy 5 d Rq l st S I :=
  (show SmW mi_X6_firstBy 5 d Rq (tr_X6_firstBy_5 d Rq) from
  (xv_iload_n dX6_firstBy_5 rfl
  (xv_aload_n dX6_firstBy_6 rfl
  (xv_getR (k := 0) dX6_firstBy_7 cl_11 tg_11 in_X6 (Nat.le_of_ble_eq_true rfl) rfl q1862
  (xv_iconst dX6_firstBy_10 rfl (inRd rfl)
  (xv_iald dX6_firstBy_11
  (xv_cge dX6_firstBy_12 rfl
  (xv_iload_n dX6_firstBy_47 rfl
  (xv_ireturn dX6_firstBy_48 rfl))
  (xv_aload_n dX6_firstBy_15 rfl
  (xv_iload_n dX6_firstBy_16 rfl
  (xv_callV dX6_firstBy_17 cl_11 tg_11 ok_X6_against rfl (lw_V q2101 q2103 qs80 q117 q2104))))))))))) l st S I h
def tr_X6_firstBy_20 (d : Nat) (Rq : SmQ) (l : SmL) (st : List SmV) (S : SmS) (I : SmI) : Prop :=
  im_zne l st S I (fun l st S I =>
  im_iinc 3 1 l st S I fun l st S I =>
  SW mi_X6_firstBy 5 d Rq l st S I) (fun l st S I =>
  im_iload 2 l st S I fun l st S I =>
  im_ic (-4) l st S I fun l st S I =>
  im_ceq l st S I (fun l st S I =>
  im_iload 3 l st S I fun l st S I =>
  im_istore 2 l st S I fun l st S I =>
  im_iinc 3 1 l st S I fun l st S I =>
  SW mi_X6_firstBy 5 d Rq l st S I) (fun l st S I =>
  im_aload 0 l st S I fun l st S I =>
  im_iload 1 l st S I fun l st S I =>
  im_iload 3 l st S I fun l st S I =>
  im_iload 2 l st S I fun l st S I =>
  im_p_X6_isAhead d l st S I fun l st S I =>
  im_zeq l st S I (fun l st S I =>
  im_iinc 3 1 l st S I fun l st S I =>
  SW mi_X6_firstBy 5 d Rq l st S I) (fun l st S I =>
  im_iload 3 l st S I fun l st S I =>
  im_istore 2 l st S I fun l st S I =>
  im_iinc 3 1 l st S I fun l st S I =>
  SW mi_X6_firstBy 5 d Rq l st S I)))
theorem rv_X6_firstBy_20 {d : Nat} {Rq : SmQ} {l : SmL} {st : List SmV} {S : SmS} {I : SmI} (h : tr_X6_firstBy_20 d Rq l st S I) : SW mi_X6_firstBy 20 d Rq l st S I :=
  (show SmW mi_X6_firstBy 20 d Rq (tr_X6_firstBy_20 d Rq) from
  (xv_zne dX6_firstBy_20 rfl
  (xv_iinc dX6_firstBy_41 (Nat.le_of_ble_eq_true rfl)
  (xv_goto dX6_firstBy_44 rfl (fun _ _ _ _ h => h)))
  (xv_iload_n dX6_firstBy_23 rfl
  (xv_bipush dX6_firstBy_24 rfl (inRd rfl)
  (xv_ceq dX6_firstBy_26 rfl
  (xv_iload_n dX6_firstBy_39 rfl
  (xv_istore_n dX6_firstBy_40 rfl (Nat.le_of_ble_eq_true rfl)
  (xv_iinc dX6_firstBy_41 (Nat.le_of_ble_eq_true rfl)
  (xv_goto dX6_firstBy_44 rfl (fun _ _ _ _ h => h)))))
  (xv_aload_n dX6_firstBy_29 rfl
  (xv_iload_n dX6_firstBy_30 rfl
  (xv_iload_n dX6_firstBy_31 rfl
  (xv_iload_n dX6_firstBy_32 rfl
  (xv_p_X6_isAhead dX6_firstBy_33 (lw_V q2190 q2192 qs95 q117 q2193)
  (xv_zeq dX6_firstBy_36 rfl
  (xv_iinc dX6_firstBy_41 (Nat.le_of_ble_eq_true rfl)
  (xv_goto dX6_firstBy_44 rfl (fun _ _ _ _ h => h)))
  (xv_iload_n dX6_firstBy_39 rfl
  (xv_istore_n dX6_firstBy_40 rfl (Nat.le_of_ble_eq_true rfl)
  (xv_iinc dX6_firstBy_41 (Nat.le_of_ble_eq_true rfl)
  (xv_goto dX6_firstBy_44 rfl (fun _ _ _ _ h => h)))))))))))))))) l st S I h
def tr_X6_firstStuck_0 (d : Nat) (Rq : SmQ) (l : SmL) (st : List SmV) (S : SmS) (I : SmI) : Prop :=
  im_aload 0 l st S I fun l st S I =>
  im_aload 0 l st S I fun l st S I =>
  im_p_X6_postureNow d l st S I fun l st S I =>
  im_callV 1 11 mi_X6_decode d (retK mi_X6_firstStuck 5 8 d Rq l) st S I
theorem rv_X6_firstStuck_0 {d : Nat} {Rq : SmQ} {l : SmL} {st : List SmV} {S : SmS} {I : SmI} (h : tr_X6_firstStuck_0 d Rq l st S I) : SW mi_X6_firstStuck 0 d Rq l st S I :=
  (show SmW mi_X6_firstStuck 0 d Rq (tr_X6_firstStuck_0 d Rq) from
  (xv_aload_n dX6_firstStuck_0 rfl
  (xv_aload_n dX6_firstStuck_1 rfl
  (xv_p_X6_postureNow dX6_firstStuck_2 (lw_V q2011 q2013 qs61 q117 q2014)
  (xv_callV dX6_firstStuck_5 cl_11 tg_11 ok_X6_decode rfl (lw_V q2022 q2024 qs63 q117 q2025)))))) l st S I h
def tr_X6_firstStuck_8 (d : Nat) (Rq : SmQ) (l : SmL) (st : List SmV) (S : SmS) (I : SmI) : Prop :=
  im_aload 0 l st S I fun l st S I =>
  im_aload 0 l st S I fun l st S I =>
  im_iload 1 l st S I fun l st S I =>
  im_p_X6_movedBy d l st S I fun l st S I =>
  im_callV 1 11 mi_X6_explore d (retK mi_X6_firstStuck 14 17 d Rq l) st S I
theorem rv_X6_firstStuck_8 {d : Nat} {Rq : SmQ} {l : SmL} {st : List SmV} {S : SmS} {I : SmI} (h : tr_X6_firstStuck_8 d Rq l st S I) : SW mi_X6_firstStuck 8 d Rq l st S I :=
  (show SmW mi_X6_firstStuck 8 d Rq (tr_X6_firstStuck_8 d Rq) from
  (xv_aload_n dX6_firstStuck_8 rfl
  (xv_aload_n dX6_firstStuck_9 rfl
  (xv_iload_n dX6_firstStuck_10 rfl
  (xv_p_X6_movedBy dX6_firstStuck_11 (lw_V q2053 q2055 qs70 q117 q2056)
  (xv_callV dX6_firstStuck_14 cl_11 tg_11 ok_X6_explore rfl (lw_V q2049 q2051 qs69 q117 q2052))))))) l st S I h
def tr_X6_firstStuck_17 (d : Nat) (Rq : SmQ) (l : SmL) (st : List SmV) (S : SmS) (I : SmI) : Prop :=
  im_ic 0 l st S I fun l st S I =>
  im_istore 2 l st S I fun l st S I =>
  SW mi_X6_firstStuck 19 d Rq l st S I
theorem rv_X6_firstStuck_17 {d : Nat} {Rq : SmQ} {l : SmL} {st : List SmV} {S : SmS} {I : SmI} (h : tr_X6_firstStuck_17 d Rq l st S I) : SW mi_X6_firstStuck 17 d Rq l st S I :=
  (show SmW mi_X6_firstStuck 17 d Rq (tr_X6_firstStuck_17 d Rq) from
  (xv_iconst dX6_firstStuck_17 rfl (inRd rfl)
  (xv_istore_n dX6_firstStuck_18 rfl (Nat.le_of_ble_eq_true rfl)
  (fun _ _ _ _ h => h)))) l st S I h
def tr_X6_firstStuck_19 (d : Nat) (Rq : SmQ) (l : SmL) (st : List SmV) (S : SmS) (I : SmI) : Prop :=
  im_iload 2 l st S I fun l st S I =>
  im_aload 0 l st S I fun l st S I =>
  im_getR 11 0 l st S I fun l st S I =>
  im_ic 1 l st S I fun l st S I =>
  im_ald 100 l st S I fun l st S I =>
  im_cge l st S I (fun l st S I =>
  im_ic (-4) l st S I fun l st S I =>
  im_ireturn Rq l st S I) (fun l st S I =>
  im_aload 0 l st S I fun l st S I =>
  im_iload 2 l st S I fun l st S I =>
  im_p_X6_isEverDone d l st S I fun l st S I =>
  im_zne l st S I (fun l st S I =>
  im_iinc 2 1 l st S I fun l st S I =>
  SW mi_X6_firstStuck 19 d Rq l st S I) (fun l st S I =>
  im_iload 2 l st S I fun l st S I =>
  im_ireturn Rq l st S I))
theorem rv_X6_firstStuck_19 {d : Nat} {Rq : SmQ} {l : SmL} {st : List SmV} {S : SmS} {I : SmI} (h : tr_X6_firstStuck_19 d Rq l st S I) : SW mi_X6_firstStuck 19 d Rq l st S I :=
  (show SmW mi_X6_firstStuck 19 d Rq (tr_X6_firstStuck_19 d Rq) from
  (xv_iload_n dX6_firstStuck_19 rfl
  (xv_aload_n dX6_firstStuck_20 rfl
  (xv_getR (k := 0) dX6_firstStuck_21 cl_11 tg_11 in_X6 (Nat.le_of_ble_eq_true rfl) rfl q1862
  (xv_iconst dX6_firstStuck_24 rfl (inRd rfl)
  (xv_iald dX6_firstStuck_25
  (xv_cge dX6_firstStuck_26 rfl
  (xv_bipush dX6_firstStuck_45 rfl (inRd rfl)
  (xv_ireturn dX6_firstStuck_47 rfl))
  (xv_aload_n dX6_firstStuck_29 rfl
  (xv_iload_n dX6_firstStuck_30 rfl
  (xv_p_X6_isEverDone dX6_firstStuck_31 (lw_V q2161 q2163 qs91 q117 q2164)
  (xv_zne dX6_firstStuck_34 rfl
  (xv_iinc dX6_firstStuck_39 (Nat.le_of_ble_eq_true rfl)
  (xv_goto dX6_firstStuck_42 rfl (fun _ _ _ _ h => h)))
  (xv_iload_n dX6_firstStuck_37 rfl
  (xv_ireturn dX6_firstStuck_38 rfl))))))))))))) l st S I h
def tr_X6_who_0 (d : Nat) (Rq : SmQ) (l : SmL) (st : List SmV) (S : SmS) (I : SmI) : Prop :=
  im_aload 0 l st S I fun l st S I =>
  im_iload 1 l st S I fun l st S I =>
  im_p_X6_isTrain d l st S I fun l st S I =>
  im_zne l st S I (fun l st S I =>
  im_aload 0 l st S I fun l st S I =>
  im_aload 0 l st S I fun l st S I =>
  im_p_X6_postureNow d l st S I fun l st S I =>
  im_callV 1 11 mi_X6_explore d (retK mi_X6_who 15 18 d Rq l) st S I) (fun l st S I =>
  im_ic (-1) l st S I fun l st S I =>
  im_ireturn Rq l st S I)
theorem rv_X6_who_0 {d : Nat} {Rq : SmQ} {l : SmL} {st : List SmV} {S : SmS} {I : SmI} (h : tr_X6_who_0 d Rq l st S I) : SW mi_X6_who 0 d Rq l st S I :=
  (show SmW mi_X6_who 0 d Rq (tr_X6_who_0 d Rq) from
  (xv_aload_n dX6_who_0 rfl
  (xv_iload_n dX6_who_1 rfl
  (xv_p_X6_isTrain dX6_who_2 (lw_V q2133 q2135 qs86 q117 q2136)
  (xv_zne dX6_who_5 rfl
  (xv_aload_n dX6_who_10 rfl
  (xv_aload_n dX6_who_11 rfl
  (xv_p_X6_postureNow dX6_who_12 (lw_V q2011 q2013 qs61 q117 q2014)
  (xv_callV dX6_who_15 cl_11 tg_11 ok_X6_explore rfl (lw_V q2049 q2051 qs69 q117 q2052)))))
  (xv_iconst dX6_who_8 rfl (inRd rfl)
  (xv_ireturn dX6_who_9 rfl))))))) l st S I h
def tr_X6_who_18 (d : Nat) (Rq : SmQ) (l : SmL) (st : List SmV) (S : SmS) (I : SmI) : Prop :=
  im_aload 0 l st S I fun l st S I =>
  im_iload 1 l st S I fun l st S I =>
  im_ic 3 l st S I fun l st S I =>
  im_p_X6_ofTrain d l st S I fun l st S I =>
  im_istore 2 l st S I fun l st S I =>
  im_aload 0 l st S I fun l st S I =>
  im_iload 1 l st S I fun l st S I =>
  im_callV 1 11 mi_X6_against d (retK mi_X6_who 27 30 d Rq l) st S I
theorem rv_X6_who_18 {d : Nat} {Rq : SmQ} {l : SmL} {st : List SmV} {S : SmS} {I : SmI} (h : tr_X6_who_18 d Rq l st S I) : SW mi_X6_who 18 d Rq l st S I :=
  (show SmW mi_X6_who 18 d Rq (tr_X6_who_18 d Rq) from
  (xv_aload_n dX6_who_18 rfl
  (xv_iload_n dX6_who_19 rfl
  (xv_iconst dX6_who_20 rfl (inRd rfl)
  (xv_p_X6_ofTrain dX6_who_21 (lw_V q2003 q2005 qs59 q117 q2006)
  (xv_istore_n dX6_who_24 rfl (Nat.le_of_ble_eq_true rfl)
  (xv_aload_n dX6_who_25 rfl
  (xv_iload_n dX6_who_26 rfl
  (xv_callV dX6_who_27 cl_11 tg_11 ok_X6_against rfl (lw_V q2101 q2103 qs80 q117 q2104)))))))))) l st S I h
def tr_X6_who_30 (d : Nat) (Rq : SmQ) (l : SmL) (st : List SmV) (S : SmS) (I : SmI) : Prop :=
  im_tsw 3 5 [(fun l st S I =>
  im_aload 0 l st S I fun l st S I =>
  im_iload 2 l st S I fun l st S I =>
  im_aload 0 l st S I fun l st S I =>
  im_iload 1 l st S I fun l st S I =>
  im_iload 2 l st S I fun l st S I =>
  im_p_X6_nextFrom d l st S I fun l st S I =>
  im_p_X6_runsBetween d l st S I fun l st S I =>
  im_ireturn Rq l st S I), (fun l st S I =>
  im_aload 0 l st S I fun l st S I =>
  im_aload 0 l st S I fun l st S I =>
  im_iload 1 l st S I fun l st S I =>
  im_iload 2 l st S I fun l st S I =>
  im_p_X6_nextFrom d l st S I fun l st S I =>
  im_callV 1 11 mi_X6_firstAt d (retK mi_X6_who 75 78 d Rq l) st S I), (fun l st S I =>
  im_aload 0 l st S I fun l st S I =>
  im_iload 1 l st S I fun l st S I =>
  im_callV 1 11 mi_X6_firstStuck d (retK mi_X6_who 81 84 d Rq l) st S I)] (fun l st S I =>
  im_ic (-4) l st S I fun l st S I =>
  im_ireturn Rq l st S I) l st S I
theorem rv_X6_who_30 {d : Nat} {Rq : SmQ} {l : SmL} {st : List SmV} {S : SmS} {I : SmI} (h : tr_X6_who_30 d Rq l st S I) : SW mi_X6_who 30 d Rq l st S I :=
  (show SmW mi_X6_who 30 d Rq (tr_X6_who_30 d Rq) from
  (xv_tsw dX6_who_30 rfl ⟨⟨56, rfl, (xv_aload_n dX6_who_56 rfl
  (xv_iload_n dX6_who_57 rfl
  (xv_aload_n dX6_who_58 rfl
  (xv_iload_n dX6_who_59 rfl
  (xv_iload_n dX6_who_60 rfl
  (xv_p_X6_nextFrom dX6_who_61 (lw_V q2057 q2059 qs71 q117 q2060)
  (xv_p_X6_runsBetween dX6_who_64 (lw_V q2105 q2107 qs81 q117 q2108)
  (xv_ireturn dX6_who_67 rfl))))))))⟩, ⟨68, rfl, (xv_aload_n dX6_who_68 rfl
  (xv_aload_n dX6_who_69 rfl
  (xv_iload_n dX6_who_70 rfl
  (xv_iload_n dX6_who_71 rfl
  (xv_p_X6_nextFrom dX6_who_72 (lw_V q2057 q2059 qs71 q117 q2060)
  (xv_callV dX6_who_75 cl_11 tg_11 ok_X6_firstAt rfl (lw_V q2153 q2155 qs89 q117 q2156)))))))⟩, ⟨79, rfl, (xv_aload_n dX6_who_79 rfl
  (xv_iload_n dX6_who_80 rfl
  (xv_callV dX6_who_81 cl_11 tg_11 ok_X6_firstStuck rfl (lw_V q2157 q2159 qs90 q117 q2160))))⟩, trivial⟩ rfl (xv_bipush dX6_who_85 rfl (inRd rfl)
  (xv_ireturn dX6_who_87 rfl)))) l st S I h
def tr_X6_who_78 (d : Nat) (Rq : SmQ) (l : SmL) (st : List SmV) (S : SmS) (I : SmI) : Prop :=
  im_ireturn Rq l st S I
theorem rv_X6_who_78 {d : Nat} {Rq : SmQ} {l : SmL} {st : List SmV} {S : SmS} {I : SmI} (h : tr_X6_who_78 d Rq l st S I) : SW mi_X6_who 78 d Rq l st S I :=
  (show SmW mi_X6_who 78 d Rq (tr_X6_who_78 d Rq) from
  (xv_ireturn dX6_who_78 rfl)) l st S I h
def tr_X6_who_84 (d : Nat) (Rq : SmQ) (l : SmL) (st : List SmV) (S : SmS) (I : SmI) : Prop :=
  im_ireturn Rq l st S I
theorem rv_X6_who_84 {d : Nat} {Rq : SmQ} {l : SmL} {st : List SmV} {S : SmS} {I : SmI} (h : tr_X6_who_84 d Rq l st S I) : SW mi_X6_who 84 d Rq l st S I :=
  (show SmW mi_X6_who 84 d Rq (tr_X6_who_84 d Rq) from
  (xv_ireturn dX6_who_84 rfl)) l st S I h
