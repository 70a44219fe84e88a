/-! regions of methods, printed by gen/regions.py -/
set_option maxRecDepth 100000
/- X6_movedBy: cut at [0, 67, 81] -/
abbrev mi_X6_movedBy : SmM := (yX6_movedBy, cX6_movedBy, 6, (some FieldType.int : Option FieldType), [])
theorem ok_X6_movedBy : callOk mi_X6_movedBy 1 := ⟨rfl, rfl, Nat.le_of_ble_eq_true rfl, by decide, by decide, by decide +kernel⟩
theorem ent_X6_movedBy (x : Option Nat) (x0 : Int) : entL (mL mi_X6_movedBy) [vR x, vI x0] = [some (vR x), some (vI x0), none, none, none, none] := rfl
/- X6_isAhead: cut at [0] -/
abbrev mi_X6_isAhead : SmM := (yX6_isAhead, cX6_isAhead, 5, (some FieldType.boolean : Option FieldType), [])
theorem ok_X6_isAhead : callOk mi_X6_isAhead 3 := ⟨rfl, rfl, Nat.le_of_ble_eq_true rfl, by decide, by decide, by decide +kernel⟩
theorem ent_X6_isAhead (x : Option Nat) (x0 : Int) (x1 : Int) (x2 : Int) : entL (mL mi_X6_isAhead) [vR x, vI x0, vI x1, vI x2] = [some (vR x), some (vI x0), some (vI x1), some (vI x2), none] := rfl
/- X6_enters: cut at [0, 14, 58, 94, 135] -/
abbrev mi_X6_enters : SmM := (yX6_enters, cX6_enters, 5, (none : Option FieldType), [])
theorem ok_X6_enters : callOk mi_X6_enters 2 := ⟨rfl, rfl, Nat.le_of_ble_eq_true rfl, by decide, by decide, by decide +kernel⟩
theorem ent_X6_enters (x : Option Nat) (x0 : Int) (x1 : Int) : entL (mL mi_X6_enters) [vR x, vI x0, vI x1] = [some (vR x), some (vI x0), some (vI x1), none, none] := rfl
/- X6_goes: cut at [0, 70] -/
abbrev mi_X6_goes : SmM := (yX6_goes, cX6_goes, 5, (none : Option FieldType), [])
theorem ok_X6_goes : callOk mi_X6_goes 1 := ⟨rfl, rfl, Nat.le_of_ble_eq_true rfl, by decide, by decide, by decide +kernel⟩
theorem ent_X6_goes (x : Option Nat) (x0 : Int) : entL (mL mi_X6_goes) [vR x, vI x0] = [some (vR x), some (vI x0), none, none, none] := rfl
/- X6_leavesJournal: cut at [0, 4, 86] -/
abbrev mi_X6_leavesJournal : SmM := (yX6_leavesJournal, cX6_leavesJournal, 7, (none : Option FieldType), [])
theorem ok_X6_leavesJournal : callOk mi_X6_leavesJournal 1 := ⟨rfl, rfl, Nat.le_of_ble_eq_true rfl, by decide, by decide, by decide +kernel⟩
theorem ent_X6_leavesJournal (x : Option Nat) (x0 : Int) : entL (mL mi_X6_leavesJournal) [vR x, vI x0] = [some (vR x), some (vI x0), none, none, none, none, none] := rfl
/- X6_place: cut at [0] -/
abbrev mi_X6_place : SmM := (yX6_place, cX6_place, 3, (some FieldType.int : Option FieldType), [])
theorem ok_X6_place : callOk mi_X6_place 2 := ⟨rfl, rfl, Nat.le_of_ble_eq_true rfl, by decide, by decide, by decide +kernel⟩
theorem ent_X6_place (x : Option Nat) (x0 : Int) (x1 : Int) : entL (mL mi_X6_place) [vR x, vI x0, vI x1] = [some (vR x), some (vI x0), some (vI x1)] := rfl
/- X6_journal: cut at [0] -/
abbrev mi_X6_journal : SmM := (yX6_journal, cX6_journal, 3, (some FieldType.int : Option FieldType), [])
theorem ok_X6_journal : callOk mi_X6_journal 2 := ⟨rfl, rfl, Nat.le_of_ble_eq_true rfl, by decide, by decide, by decide +kernel⟩
theorem ent_X6_journal (x : Option Nat) (x0 : Int) (x1 : Int) : entL (mL mi_X6_journal) [vR x, vI x0, vI x1] = [some (vR x), some (vI x0), some (vI x1)] := rfl
/- X6_sheet: cut at [0, 40] -/
abbrev mi_X6_sheet : SmM := (yX6_sheet, cX6_sheet, 5, (some FieldType.int : Option FieldType), [])
theorem ok_X6_sheet : callOk mi_X6_sheet 3 := ⟨rfl, rfl, Nat.le_of_ble_eq_true rfl, by decide, by decide, by decide +kernel⟩
theorem ent_X6_sheet (x : Option Nat) (x0 : Int) (x1 : Int) (x2 : Int) : entL (mL mi_X6_sheet) [vR x, vI x0, vI x1, vI x2] = [some (vR x), some (vI x0), some (vI x1), some (vI x2), none] := rfl
/- X6_lay: cut at [0] -/
abbrev mi_X6_lay : SmM := (yX6_lay, cX6_lay, 4, (some FieldType.int : Option FieldType), [])
theorem ok_X6_lay : callOk mi_X6_lay 3 := ⟨rfl, rfl, Nat.le_of_ble_eq_true rfl, by decide, by decide, by decide +kernel⟩
theorem ent_X6_lay (x : Option Nat) (x0 : Int) (x1 : Int) (x2 : Int) : entL (mL mi_X6_lay) [vR x, vI x0, vI x1, vI x2] = [some (vR x), some (vI x0), some (vI x1), some (vI x2)] := rfl
/- X6_keep: cut at [0, 31] -/
abbrev mi_X6_keep : SmM := (yX6_keep, cX6_keep, 4, (some FieldType.int : Option FieldType), [])
theorem ok_X6_keep : callOk mi_X6_keep 1 := ⟨rfl, rfl, Nat.le_of_ble_eq_true rfl, by decide, by decide, by decide +kernel⟩
theorem ent_X6_keep (x : Option Nat) (x0 : Int) : entL (mL mi_X6_keep) [vR x, vI x0] = [some (vR x), some (vI x0), none, none] := rfl
/- X6_back: cut at [0, 26] -/
abbrev mi_X6_back : SmM := (yX6_back, cX6_back, 3, (some FieldType.int : Option FieldType), [])
theorem ok_X6_back : callOk mi_X6_back 1 := ⟨rfl, rfl, Nat.le_of_ble_eq_true rfl, by decide, by decide, by decide +kernel⟩
theorem ent_X6_back (x : Option Nat) (x0 : Int) : entL (mL mi_X6_back) [vR x, vI x0] = [some (vR x), some (vI x0), none] := rfl
/- X6_feed: cut at [0] -/
abbrev mi_X6_feed : SmM := (yX6_feed, cX6_feed, 2, (some FieldType.int : Option FieldType), [])
theorem ok_X6_feed : callOk mi_X6_feed 1 := ⟨rfl, rfl, Nat.le_of_ble_eq_true rfl, by decide, by decide, by decide +kernel⟩
theorem ent_X6_feed (x : Option Nat) (x0 : Int) : entL (mL mi_X6_feed) [vR x, vI x0] = [some (vR x), some (vI x0)] := rfl
/- X6_end: cut at [0] -/
abbrev mi_X6_end : SmM := (yX6_end, cX6_end, 3, (some FieldType.int : Option FieldType), [])
theorem ok_X6_end : callOk mi_X6_end 1 := ⟨rfl, rfl, Nat.le_of_ble_eq_true rfl, by decide, by decide, by decide +kernel⟩
theorem ent_X6_end (x : Option Nat) (x0 : Int) : entL (mL mi_X6_end) [vR x, vI x0] = [some (vR x), some (vI x0), none] := rfl
/- X6_reads: cut at [0, 8, 82, 140, 201, 240, 264] -/
abbrev mi_X6_reads : SmM := (yX6_reads, cX6_reads, 2, (none : Option FieldType), [])
theorem ok_X6_reads : callOk mi_X6_reads 0 := ⟨rfl, rfl, Nat.le_of_ble_eq_true rfl, by decide, by decide, by decide +kernel⟩
theorem ent_X6_reads (x : Option Nat) : entL (mL mi_X6_reads) [vR x] = [some (vR x), none] := rfl
def tr_X6_movedBy_0 (d : Nat) (Rq : SmQ) (l : SmL) (st : List SmV) (S : SmS) (I : SmI) : Prop :=
  im_aload 0 l st S I fun l st S I =>
  im_getR 11 13 l st S I fun l st S I =>
  im_iload 1 l st S I fun l st S I =>
  im_ald 100 l st S I fun l st S I =>
  im_zne l st S I (fun l st S I =>
  im_aload 0 l st S I fun l st S I =>
  im_getR 11 13 l st S I fun l st S I =>
  im_iload 1 l st S I fun l st S I =>
  im_ald 100 l st S I fun l st S I =>
  im_istore 2 l st S I fun l st S I =>
  im_aload 0 l st S I fun l st S I =>
  im_iload 1 l st S I fun l st S I =>
  im_iload 2 l st S I fun l st S I =>
  im_ic 1 l st S I fun l st S I =>
  im_isub l st S I fun l st S I =>
  im_p_X6_nextFrom d l st S I fun l st S I =>
  im_istore 3 l st S I fun l st S I =>
  im_ic 1 l st S I fun l st S I =>
  im_istore 4 l st S I fun l st S I =>
  im_iload 3 l st S I fun l st S I =>
  im_aload 0 l st S I fun l st S I =>
  im_iload 1 l st S I fun l st S I =>
  im_ic 1 l st S I fun l st S I =>
  im_p_X6_ofTrain d l st S I fun l st S I =>
  im_cne l st S I (fun l st S I =>
  im_aload 0 l st S I fun l st S I =>
  im_getR 11 13 l st S I fun l st S I =>
  im_iload 1 l st S I fun l st S I =>
  im_iload 3 l st S I fun l st S I =>
  im_ic 1 l st S I fun l st S I =>
  im_iadd l st S I fun l st S I =>
  im_iast l st S I fun l st S I =>
  im_aload 0 l st S I fun l st S I =>
  im_iload 3 l st S I fun l st S I =>
  im_p_X6_holds d l st S I fun l st S I =>
  im_istore 4 l st S I fun l st S I =>
  SW mi_X6_movedBy 67 d Rq l st S I) (fun l st S I =>
  im_aload 0 l st S I fun l st S I =>
  im_getR 11 13 l st S I fun l st S I =>
  im_iload 1 l st S I fun l st S I =>
  im_ic 0 l st S I fun l st S I =>
  im_iast l st S I fun l st S I =>
  SW mi_X6_movedBy 67 d Rq l st S I)) (fun l st S I =>
  im_ic (-4) l st S I fun l st S I =>
  im_ireturn Rq l st S I)
theorem rv_X6_movedBy_0 {d : Nat} {Rq : SmQ} {l : SmL} {st : List SmV} {S : SmS} {I : SmI} (h : tr_X6_movedBy_0 d Rq l st S I) : SW mi_X6_movedBy 0 d Rq l st S I :=
  (show SmW mi_X6_movedBy 0 d Rq (tr_X6_movedBy_0 d Rq) from
  (xv_aload_n dX6_movedBy_0 rfl
  (xv_getR (k := 13) dX6_movedBy_1 cl_11 tg_11 in_X6 (Nat.le_of_ble_eq_true rfl) rfl q1875
  (xv_iload_n dX6_movedBy_4 rfl
  (xv_iald dX6_movedBy_5
  (xv_zne dX6_movedBy_6 rfl
  (xv_aload_n dX6_movedBy_12 rfl
  (xv_getR (k := 13) dX6_movedBy_13 cl_11 tg_11 in_X6 (Nat.le_of_ble_eq_true rfl) rfl q1875
  (xv_iload_n dX6_movedBy_16 rfl
  (xv_iald dX6_movedBy_17
  (xv_istore_n dX6_movedBy_18 rfl (Nat.le_of_ble_eq_true rfl)
  (xv_aload_n dX6_movedBy_19 rfl
  (xv_iload_n dX6_movedBy_20 rfl
  (xv_iload_n dX6_movedBy_21 rfl
  (xv_iconst dX6_movedBy_22 rfl (inRd rfl)
  (xv_isub dX6_movedBy_23
  (xv_p_X6_nextFrom dX6_movedBy_24 (lw_V q2057 q2059 qs71 q117 q2060)
  (xv_istore_n dX6_movedBy_27 rfl (Nat.le_of_ble_eq_true rfl)
  (xv_iconst dX6_movedBy_28 rfl (inRd rfl)
  (xv_istore dX6_movedBy_29 (Nat.le_of_ble_eq_true rfl)
  (xv_iload_n dX6_movedBy_31 rfl
  (xv_aload_n dX6_movedBy_32 rfl
  (xv_iload_n dX6_movedBy_33 rfl
  (xv_iconst dX6_movedBy_34 rfl (inRd rfl)
  (xv_p_X6_ofTrain dX6_movedBy_35 (lw_V q2003 q2005 qs59 q117 q2006)
  (xv_cne dX6_movedBy_38 rfl
  (xv_aload_n dX6_movedBy_51 rfl
  (xv_getR (k := 13) dX6_movedBy_52 cl_11 tg_11 in_X6 (Nat.le_of_ble_eq_true rfl) rfl q1875
  (xv_iload_n dX6_movedBy_55 rfl
  (xv_iload_n dX6_movedBy_56 rfl
  (xv_iconst dX6_movedBy_57 rfl (inRd rfl)
  (xv_iadd dX6_movedBy_58
  (xv_iast dX6_movedBy_59
  (xv_aload_n dX6_movedBy_60 rfl
  (xv_iload_n dX6_movedBy_61 rfl
  (xv_p_X6_holds dX6_movedBy_62 (lw_V q2026 q2028 qs64 q117 q2029)
  (xv_istore dX6_movedBy_65 (Nat.le_of_ble_eq_true rfl)
  (fun _ _ _ _ h => h))))))))))))
  (xv_aload_n dX6_movedBy_41 rfl
  (xv_getR (k := 13) dX6_movedBy_42 cl_11 tg_11 in_X6 (Nat.le_of_ble_eq_true rfl) rfl q1875
  (xv_iload_n dX6_movedBy_45 rfl
  (xv_iconst dX6_movedBy_46 rfl (inRd rfl)
  (xv_iast dX6_movedBy_47
  (xv_goto dX6_movedBy_48 rfl (fun _ _ _ _ h => h)))))))))))))))))))))))))))
  (xv_bipush dX6_movedBy_9 rfl (inRd rfl)
  (xv_ireturn dX6_movedBy_11 rfl)))))))) l st S I h
def tr_X6_movedBy_67 (d : Nat) (Rq : SmQ) (l : SmL) (st : List SmV) (S : SmS) (I : SmI) : Prop :=
  im_iload 4 l st S I fun l st S I =>
  im_zeq l st S I (fun l st S I =>
  im_ic (-4) l st S I fun l st S I =>
  SW mi_X6_movedBy 81 d Rq l st S I) (fun l st S I =>
  im_aload 0 l st S I fun l st S I =>
  im_p_X6_encode d l st S I fun l st S I =>
  SW mi_X6_movedBy 81 d Rq l st S I)
theorem rv_X6_movedBy_67 {d : Nat} {Rq : SmQ} {l : SmL} {st : List SmV} {S : SmS} {I : SmI} (h : tr_X6_movedBy_67 d Rq l st S I) : SW mi_X6_movedBy 67 d Rq l st S I :=
  (show SmW mi_X6_movedBy 67 d Rq (tr_X6_movedBy_67 d Rq) from
  (xv_iload dX6_movedBy_67
  (xv_zeq dX6_movedBy_69 rfl
  (xv_bipush dX6_movedBy_79 rfl (inRd rfl)
  (fun _ _ _ _ h => h))
  (xv_aload_n dX6_movedBy_72 rfl
  (xv_p_X6_encode dX6_movedBy_73 (lw_V q2061 q2063 qs72 q117 q2064)
  (xv_goto dX6_movedBy_76 rfl (fun _ _ _ _ h => h))))))) l st S I h
def tr_X6_movedBy_81 (d : Nat) (Rq : SmQ) (l : SmL) (st : List SmV) (S : SmS) (I : SmI) : Prop :=
  im_istore 5 l st S I fun l st S I =>
  im_aload 0 l st S I fun l st S I =>
  im_getR 11 13 l st S I fun l st S I =>
  im_iload 1 l st S I fun l st S I =>
  im_iload 2 l st S I fun l st S I =>
  im_iast l st S I fun l st S I =>
  im_iload 5 l st S I fun l st S I =>
  im_ireturn Rq l st S I
theorem rv_X6_movedBy_81 {d : Nat} {Rq : SmQ} {l : SmL} {st : List SmV} {S : SmS} {I : SmI} (h : tr_X6_movedBy_81 d Rq l st S I) : SW mi_X6_movedBy 81 d Rq l st S I :=
  (show SmW mi_X6_movedBy 81 d Rq (tr_X6_movedBy_81 d Rq) from
  (xv_istore dX6_movedBy_81 (Nat.le_of_ble_eq_true rfl)
  (xv_aload_n dX6_movedBy_83 rfl
  (xv_getR (k := 13) dX6_movedBy_84 cl_11 tg_11 in_X6 (Nat.le_of_ble_eq_true rfl) rfl q1875
  (xv_iload_n dX6_movedBy_87 rfl
  (xv_iload_n dX6_movedBy_88 rfl
  (xv_iast dX6_movedBy_89
  (xv_iload dX6_movedBy_90
  (xv_ireturn dX6_movedBy_92 rfl))))))))) l st S I h
def tr_X6_isAhead_0 (d : Nat) (Rq : SmQ) (l : SmL) (st : List SmV) (S : SmS) (I : SmI) : Prop :=
  im_aload 0 l st S I fun l st S I =>
  im_iload 2 l st S I fun l st S I =>
  im_p_X6_minutesStill d l st S I fun l st S I =>
  im_aload 0 l st S I fun l st S I =>
  im_iload 3 l st S I fun l st S I =>
  im_p_X6_minutesStill d l st S I fun l st S I =>
  im_isub l st S I fun l st S I =>
  im_istore 4 l st S I fun l st S I =>
  im_iload 1 l st S I fun l st S I =>
  im_ic 1 l st S I fun l st S I =>
  im_cne l st S I (fun l st S I =>
  im_iload 1 l st S I fun l st S I =>
  im_ic 2 l st S I fun l st S I =>
  im_cne l st S I (fun l st S I =>
  im_ic 0 l st S I fun l st S I =>
  im_zreturn Rq l st S I) (fun l st S I =>
  im_iload 4 l st S I fun l st S I =>
  im_zle l st S I (fun l st S I =>
  im_ic 0 l st S I fun l st S I =>
  im_zreturn Rq l st S I) (fun l st S I =>
  im_ic 1 l st S I fun l st S I =>
  im_zreturn Rq l st S I))) (fun l st S I =>
  im_iload 4 l st S I fun l st S I =>
  im_zge l st S I (fun l st S I =>
  im_ic 0 l st S I fun l st S I =>
  im_zreturn Rq l st S I) (fun l st S I =>
  im_ic 1 l st S I fun l st S I =>
  im_zreturn Rq l st S I))
theorem rv_X6_isAhead_0 {d : Nat} {Rq : SmQ} {l : SmL} {st : List SmV} {S : SmS} {I : SmI} (h : tr_X6_isAhead_0 d Rq l st S I) : SW mi_X6_isAhead 0 d Rq l st S I :=
  (show SmW mi_X6_isAhead 0 d Rq (tr_X6_isAhead_0 d Rq) from
  (xv_aload_n dX6_isAhead_0 rfl
  (xv_iload_n dX6_isAhead_1 rfl
  (xv_p_X6_minutesStill dX6_isAhead_2 (lw_V q2137 q2139 qs87 q117 q2140)
  (xv_aload_n dX6_isAhead_5 rfl
  (xv_iload_n dX6_isAhead_6 rfl
  (xv_p_X6_minutesStill dX6_isAhead_7 (lw_V q2137 q2139 qs87 q117 q2140)
  (xv_isub dX6_isAhead_10
  (xv_istore dX6_isAhead_11 (Nat.le_of_ble_eq_true rfl)
  (xv_iload_n dX6_isAhead_13 rfl
  (xv_iconst dX6_isAhead_14 rfl (inRd rfl)
  (xv_cne dX6_isAhead_15 rfl
  (xv_iload_n dX6_isAhead_31 rfl
  (xv_iconst dX6_isAhead_32 rfl (inRd rfl)
  (xv_cne dX6_isAhead_33 rfl
  (xv_iconst dX6_isAhead_45 rfl (inRd rfl)
  (xv_zreturn dX6_isAhead_46 rfl))
  (xv_iload dX6_isAhead_36
  (xv_zle dX6_isAhead_38 rfl
  (xv_iconst dX6_isAhead_45 rfl (inRd rfl)
  (xv_zreturn dX6_isAhead_46 rfl))
  (xv_iconst dX6_isAhead_41 rfl (inRd rfl)
  (xv_goto dX6_isAhead_42 rfl (xv_zreturn dX6_isAhead_46 rfl))))))))
  (xv_iload dX6_isAhead_18
  (xv_zge dX6_isAhead_20 rfl
  (xv_iconst dX6_isAhead_27 rfl (inRd rfl)
  (xv_goto dX6_isAhead_28 rfl (xv_zreturn dX6_isAhead_46 rfl)))
  (xv_iconst dX6_isAhead_23 rfl (inRd rfl)
  (xv_goto dX6_isAhead_24 rfl (xv_zreturn dX6_isAhead_46 rfl))))))))))))))))) l st S I h
def tr_X6_enters_0 (d : Nat) (Rq : SmQ) (l : SmL) (st : List SmV) (S : SmS) (I : SmI) : Prop :=
  im_aload 0 l st S I fun l st S I =>
  im_getR 11 0 l st S I fun l st S I =>
  im_ic 3 l st S I fun l st S I =>
  im_ald 100 l st S I fun l st S I =>
  im_ic 60 l st S I fun l st S I =>
  im_cne l st S I (fun l st S I =>
  im_aload 0 l st S I fun l st S I =>
  im_getR 11 0 l st S I fun l st S I =>
  im_ic 3 l st S I fun l st S I =>
  im_ald 100 l st S I fun l st S I =>
  im_istore 3 l st S I fun l st S I =>
  SW mi_X6_enters 58 d Rq l st S I) (fun l st S I =>
  im_ic 58 l st S I fun l st S I =>
  im_istore 3 l st S I fun l st S I =>
  SW mi_X6_enters 14 d Rq l st S I)
theorem rv_X6_enters_0 {d : Nat} {Rq : SmQ} {l : SmL} {st : List SmV} {S : SmS} {I : SmI} (h : tr_X6_enters_0 d Rq l st S I) : SW mi_X6_enters 0 d Rq l st S I :=
  (show SmW mi_X6_enters 0 d Rq (tr_X6_enters_0 d Rq) from
  (xv_aload_n dX6_enters_0 rfl
  (xv_getR (k := 0) dX6_enters_1 cl_11 tg_11 in_X6 (Nat.le_of_ble_eq_true rfl) rfl q1862
  (xv_iconst dX6_enters_4 rfl (inRd rfl)
  (xv_iald dX6_enters_5
  (xv_bipush dX6_enters_6 rfl (inRd rfl)
  (xv_cne dX6_enters_8 rfl
  (xv_aload_n dX6_enters_51 rfl
  (xv_getR (k := 0) dX6_enters_52 cl_11 tg_11 in_X6 (Nat.le_of_ble_eq_true rfl) rfl q1862
  (xv_iconst dX6_enters_55 rfl (inRd rfl)
  (xv_iald dX6_enters_56
  (xv_istore_n dX6_enters_57 rfl (Nat.le_of_ble_eq_true rfl)
  (fun _ _ _ _ h => h))))))
  (xv_bipush dX6_enters_11 rfl (inRd rfl)
  (xv_istore_n dX6_enters_13 rfl (Nat.le_of_ble_eq_true rfl)
  (fun _ _ _ _ h => h)))))))))) l st S I h
def tr_X6_enters_14 (d : Nat) (Rq : SmQ) (l : SmL) (st : List SmV) (S : SmS) (I : SmI) : Prop :=
  im_iload 3 l st S I fun l st S I =>
  im_ic 235 l st S I fun l st S I =>
  im_cge l st S I (fun l st S I =>
  im_aload 0 l st S I fun l st S I =>
  im_getR 11 0 l st S I fun l st S I =>
  im_ic 3 l st S I fun l st S I =>
  im_dup2 l st S I fun l st S I =>
  im_ald 100 l st S I fun l st S I =>
  im_ic 1 l st S I fun l st S I =>
  im_isub l st S I fun l st S I =>
  im_iast l st S I fun l st S I =>
  im_aload 0 l st S I fun l st S I =>
  im_getR 11 0 l st S I fun l st S I =>
  im_ic 3 l st S I fun l st S I =>
  im_ald 100 l st S I fun l st S I =>
  im_istore 3 l st S I fun l st S I =>
  SW mi_X6_enters 58 d Rq l st S I) (fun l st S I =>
  im_aload 0 l st S I fun l st S I =>
  im_getR 11 0 l st S I fun l st S I =>
  im_iload 3 l st S I fun l st S I =>
  im_aload 0 l st S I fun l st S I =>
  im_getR 11 0 l st S I fun l st S I =>
  im_iload 3 l st S I fun l st S I =>
  im_ic 3 l st S I fun l st S I =>
  im_iadd l st S I fun l st S I =>
  im_ald 100 l st S I fun l st S I =>
  im_iast l st S I fun l st S I =>
  im_iinc 3 1 l st S I fun l st S I =>
  SW mi_X6_enters 14 d Rq l st S I)
theorem rv_X6_enters_14 {d : Nat} {Rq : SmQ} {l : SmL} {st : List SmV} {S : SmS} {I : SmI} (h : tr_X6_enters_14 d Rq l st S I) : SW mi_X6_enters 14 d Rq l st S I :=
  (show SmW mi_X6_enters 14 d Rq (tr_X6_enters_14 d Rq) from
  (xv_iload_n dX6_enters_14 rfl
  (xv_sipush dX6_enters_15 rfl (inRd rfl)
  (xv_cge dX6_enters_18 rfl
  (xv_aload_n dX6_enters_41 rfl
  (xv_getR (k := 0) dX6_enters_42 cl_11 tg_11 in_X6 (Nat.le_of_ble_eq_true rfl) rfl q1862
  (xv_iconst dX6_enters_45 rfl (inRd rfl)
  (xv_dup2 dX6_enters_46
  (xv_iald dX6_enters_47
  (xv_iconst dX6_enters_48 rfl (inRd rfl)
  (xv_isub dX6_enters_49
  (xv_iast dX6_enters_50
  (xv_aload_n dX6_enters_51 rfl
  (xv_getR (k := 0) dX6_enters_52 cl_11 tg_11 in_X6 (Nat.le_of_ble_eq_true rfl) rfl q1862
  (xv_iconst dX6_enters_55 rfl (inRd rfl)
  (xv_iald dX6_enters_56
  (xv_istore_n dX6_enters_57 rfl (Nat.le_of_ble_eq_true rfl)
  (fun _ _ _ _ h => h))))))))))))))
  (xv_aload_n dX6_enters_21 rfl
  (xv_getR (k := 0) dX6_enters_22 cl_11 tg_11 in_X6 (Nat.le_of_ble_eq_true rfl) rfl q1862
  (xv_iload_n dX6_enters_25 rfl
  (xv_aload_n dX6_enters_26 rfl
  (xv_getR (k := 0) dX6_enters_27 cl_11 tg_11 in_X6 (Nat.le_of_ble_eq_true rfl) rfl q1862
  (xv_iload_n dX6_enters_30 rfl
  (xv_iconst dX6_enters_31 rfl (inRd rfl)
  (xv_iadd dX6_enters_32
  (xv_iald dX6_enters_33
  (xv_iast dX6_enters_34
  (xv_iinc dX6_enters_35 (Nat.le_of_ble_eq_true rfl)
  (xv_goto dX6_enters_38 rfl (fun _ _ _ _ h => h))))))))))))))))) l st S I h
def tr_X6_enters_58 (d : Nat) (Rq : SmQ) (l : SmL) (st : List SmV) (S : SmS) (I : SmI) : Prop :=
  im_iload 3 l st S I fun l st S I =>
  im_zle l st S I (fun l st S I =>
  SW mi_X6_enters 135 d Rq l st S I) (fun l st S I =>
  im_aload 0 l st S I fun l st S I =>
  im_iload 3 l st S I fun l st S I =>
  im_ic 1 l st S I fun l st S I =>
  im_isub l st S I fun l st S I =>
  im_ic 0 l st S I fun l st S I =>
  im_p_X6_entry d l st S I fun l st S I =>
  im_aload 0 l st S I fun l st S I =>
  im_getR 11 0 l st S I fun l st S I =>
  im_ic 2 l st S I fun l st S I =>
  im_ald 100 l st S I fun l st S I =>
  im_cne l st S I (fun l st S I =>
  SW mi_X6_enters 135 d Rq l st S I) (fun l st S I =>
  im_aload 0 l st S I fun l st S I =>
  im_iload 3 l st S I fun l st S I =>
  im_ic 1 l st S I fun l st S I =>
  im_isub l st S I fun l st S I =>
  im_ic 1 l st S I fun l st S I =>
  im_p_X6_entry d l st S I fun l st S I =>
  im_iload 1 l st S I fun l st S I =>
  im_cle l st S I (fun l st S I =>
  SW mi_X6_enters 135 d Rq l st S I) (fun l st S I =>
  im_ic 0 l st S I fun l st S I =>
  im_istore 4 l st S I fun l st S I =>
  SW mi_X6_enters 94 d Rq l st S I)))
theorem rv_X6_enters_58 {d : Nat} {Rq : SmQ} {l : SmL} {st : List SmV} {S : SmS} {I : SmI} (h : tr_X6_enters_58 d Rq l st S I) : SW mi_X6_enters 58 d Rq l st S I :=
  (show SmW mi_X6_enters 58 d Rq (tr_X6_enters_58 d Rq) from
  (xv_iload_n dX6_enters_58 rfl
  (xv_zle dX6_enters_59 rfl
  (fun _ _ _ _ h => h)
  (xv_aload_n dX6_enters_62 rfl
  (xv_iload_n dX6_enters_63 rfl
  (xv_iconst dX6_enters_64 rfl (inRd rfl)
  (xv_isub dX6_enters_65
  (xv_iconst dX6_enters_66 rfl (inRd rfl)
  (xv_p_X6_entry dX6_enters_67 (lw_V q2202 q2204 qs98 q117 q2205)
  (xv_aload_n dX6_enters_70 rfl
  (xv_getR (k := 0) dX6_enters_71 cl_11 tg_11 in_X6 (Nat.le_of_ble_eq_true rfl) rfl q1862
  (xv_iconst dX6_enters_74 rfl (inRd rfl)
  (xv_iald dX6_enters_75
  (xv_cne dX6_enters_76 rfl
  (fun _ _ _ _ h => h)
  (xv_aload_n dX6_enters_79 rfl
  (xv_iload_n dX6_enters_80 rfl
  (xv_iconst dX6_enters_81 rfl (inRd rfl)
  (xv_isub dX6_enters_82
  (xv_iconst dX6_enters_83 rfl (inRd rfl)
  (xv_p_X6_entry dX6_enters_84 (lw_V q2202 q2204 qs98 q117 q2205)
  (xv_iload_n dX6_enters_87 rfl
  (xv_cle dX6_enters_88 rfl
  (fun _ _ _ _ h => h)
  (xv_iconst dX6_enters_91 rfl (inRd rfl)
  (xv_istore dX6_enters_92 (Nat.le_of_ble_eq_true rfl)
  (fun _ _ _ _ h => h))))))))))))))))))))))))) l st S I h
def tr_X6_enters_94 (d : Nat) (Rq : SmQ) (l : SmL) (st : List SmV) (S : SmS) (I : SmI) : Prop :=
  im_iload 4 l st S I fun l st S I =>
  im_ic 3 l st S I fun l st S I =>
  im_cge l st S I (fun l st S I =>
  im_iinc 3 (-1) l st S I fun l st S I =>
  SW mi_X6_enters 58 d Rq l st S I) (fun l st S I =>
  im_aload 0 l st S I fun l st S I =>
  im_getR 11 0 l st S I fun l st S I =>
  im_ic 58 l st S I fun l st S I =>
  im_ic 3 l st S I fun l st S I =>
  im_iload 3 l st S I fun l st S I =>
  im_imul l st S I fun l st S I =>
  im_iadd l st S I fun l st S I =>
  im_iload 4 l st S I fun l st S I =>
  im_iadd l st S I fun l st S I =>
  im_aload 0 l st S I fun l st S I =>
  im_iload 3 l st S I fun l st S I =>
  im_ic 1 l st S I fun l st S I =>
  im_isub l st S I fun l st S I =>
  im_iload 4 l st S I fun l st S I =>
  im_p_X6_entry d l st S I fun l st S I =>
  im_iast l st S I fun l st S I =>
  im_iinc 4 1 l st S I fun l st S I =>
  SW mi_X6_enters 94 d Rq l st S I)
theorem rv_X6_enters_94 {d : Nat} {Rq : SmQ} {l : SmL} {st : List SmV} {S : SmS} {I : SmI} (h : tr_X6_enters_94 d Rq l st S I) : SW mi_X6_enters 94 d Rq l st S I :=
  (show SmW mi_X6_enters 94 d Rq (tr_X6_enters_94 d Rq) from
  (xv_iload dX6_enters_94
  (xv_iconst dX6_enters_96 rfl (inRd rfl)
  (xv_cge dX6_enters_97 rfl
  (xv_iinc dX6_enters_129 (Nat.le_of_ble_eq_true rfl)
  (xv_goto dX6_enters_132 rfl (fun _ _ _ _ h => h)))
  (xv_aload_n dX6_enters_100 rfl
  (xv_getR (k := 0) dX6_enters_101 cl_11 tg_11 in_X6 (Nat.le_of_ble_eq_true rfl) rfl q1862
  (xv_bipush dX6_enters_104 rfl (inRd rfl)
  (xv_iconst dX6_enters_106 rfl (inRd rfl)
  (xv_iload_n dX6_enters_107 rfl
  (xv_imul dX6_enters_108
  (xv_iadd dX6_enters_109
  (xv_iload dX6_enters_110
  (xv_iadd dX6_enters_112
  (xv_aload_n dX6_enters_113 rfl
  (xv_iload_n dX6_enters_114 rfl
  (xv_iconst dX6_enters_115 rfl (inRd rfl)
  (xv_isub dX6_enters_116
  (xv_iload dX6_enters_117
  (xv_p_X6_entry dX6_enters_119 (lw_V q2202 q2204 qs98 q117 q2205)
  (xv_iast dX6_enters_122
  (xv_iinc dX6_enters_123 (Nat.le_of_ble_eq_true rfl)
  (xv_goto dX6_enters_126 rfl (fun _ _ _ _ h => h))))))))))))))))))))))) l st S I h
def tr_X6_enters_135 (d : Nat) (Rq : SmQ) (l : SmL) (st : List SmV) (S : SmS) (I : SmI) : Prop :=
  im_aload 0 l st S I fun l st S I =>
  im_getR 11 0 l st S I fun l st S I =>
  im_ic 58 l st S I fun l st S I =>
  im_ic 3 l st S I fun l st S I =>
  im_iload 3 l st S I fun l st S I =>
  im_imul l st S I fun l st S I =>
  im_iadd l st S I fun l st S I =>
  im_ic 0 l st S I fun l st S I =>
  im_iadd l st S I fun l st S I =>
  im_aload 0 l st S I fun l st S I =>
  im_getR 11 0 l st S I fun l st S I =>
  im_ic 2 l st S I fun l st S I =>
  im_ald 100 l st S I fun l st S I =>
  im_iast l st S I fun l st S I =>
  im_aload 0 l st S I fun l st S I =>
  im_getR 11 0 l st S I fun l st S I =>
  im_ic 58 l st S I fun l st S I =>
  im_ic 3 l st S I fun l st S I =>
  im_iload 3 l st S I fun l st S I =>
  im_imul l st S I fun l st S I =>
  im_iadd l st S I fun l st S I =>
  im_ic 1 l st S I fun l st S I =>
  im_iadd l st S I fun l st S I =>
  im_iload 1 l st S I fun l st S I =>
  im_iast l st S I fun l st S I =>
  im_aload 0 l st S I fun l st S I =>
  im_getR 11 0 l st S I fun l st S I =>
  im_ic 58 l st S I fun l st S I =>
  im_ic 3 l st S I fun l st S I =>
  im_iload 3 l st S I fun l st S I =>
  im_imul l st S I fun l st S I =>
  im_iadd l st S I fun l st S I =>
  im_ic 2 l st S I fun l st S I =>
  im_iadd l st S I fun l st S I =>
  im_iload 2 l st S I fun l st S I =>
  im_iast l st S I fun l st S I =>
  im_aload 0 l st S I fun l st S I =>
  im_getR 11 0 l st S I fun l st S I =>
  im_ic 3 l st S I fun l st S I =>
  im_dup2 l st S I fun l st S I =>
  im_ald 100 l st S I fun l st S I =>
  im_ic 1 l st S I fun l st S I =>
  im_iadd l st S I fun l st S I =>
  im_iast l st S I fun l st S I =>
  im_return Rq l st S I
theorem rv_X6_enters_135 {d : Nat} {Rq : SmQ} {l : SmL} {st : List SmV} {S : SmS} {I : SmI} (h : tr_X6_enters_135 d Rq l st S I) : SW mi_X6_enters 135 d Rq l st S I :=
  (show SmW mi_X6_enters 135 d Rq (tr_X6_enters_135 d Rq) from
  (xv_aload_n dX6_enters_135 rfl
  (xv_getR (k := 0) dX6_enters_136 cl_11 tg_11 in_X6 (Nat.le_of_ble_eq_true rfl) rfl q1862
  (xv_bipush dX6_enters_139 rfl (inRd rfl)
  (xv_iconst dX6_enters_141 rfl (inRd rfl)
  (xv_iload_n dX6_enters_142 rfl
  (xv_imul dX6_enters_143
  (xv_iadd dX6_enters_144
  (xv_iconst dX6_enters_145 rfl (inRd rfl)
  (xv_iadd dX6_enters_146
  (xv_aload_n dX6_enters_147 rfl
  (xv_getR (k := 0) dX6_enters_148 cl_11 tg_11 in_X6 (Nat.le_of_ble_eq_true rfl) rfl q1862
  (xv_iconst dX6_enters_151 rfl (inRd rfl)
  (xv_iald dX6_enters_152
  (xv_iast dX6_enters_153
  (xv_aload_n dX6_enters_154 rfl
  (xv_getR (k := 0) dX6_enters_155 cl_11 tg_11 in_X6 (Nat.le_of_ble_eq_true rfl) rfl q1862
  (xv_bipush dX6_enters_158 rfl (inRd rfl)
  (xv_iconst dX6_enters_160 rfl (inRd rfl)
  (xv_iload_n dX6_enters_161 rfl
  (xv_imul dX6_enters_162
  (xv_iadd dX6_enters_163
  (xv_iconst dX6_enters_164 rfl (inRd rfl)
  (xv_iadd dX6_enters_165
  (xv_iload_n dX6_enters_166 rfl
  (xv_iast dX6_enters_167
  (xv_aload_n dX6_enters_168 rfl
  (xv_getR (k := 0) dX6_enters_169 cl_11 tg_11 in_X6 (Nat.le_of_ble_eq_true rfl) rfl q1862
  (xv_bipush dX6_enters_172 rfl (inRd rfl)
  (xv_iconst dX6_enters_174 rfl (inRd rfl)
  (xv_iload_n dX6_enters_175 rfl
  (xv_imul dX6_enters_176
  (xv_iadd dX6_enters_177
  (xv_iconst dX6_enters_178 rfl (inRd rfl)
  (xv_iadd dX6_enters_179
  (xv_iload_n dX6_enters_180 rfl
  (xv_iast dX6_enters_181
  (xv_aload_n dX6_enters_182 rfl
  (xv_getR (k := 0) dX6_enters_183 cl_11 tg_11 in_X6 (Nat.le_of_ble_eq_true rfl) rfl q1862
  (xv_iconst dX6_enters_186 rfl (inRd rfl)
  (xv_dup2 dX6_enters_187
  (xv_iald dX6_enters_188
  (xv_iconst dX6_enters_189 rfl (inRd rfl)
  (xv_iadd dX6_enters_190
  (xv_iast dX6_enters_191
  (xv_return dX6_enters_192 rfl)))))))))))))))))))))))))))))))))))))))))))))) l st S I h
def tr_X6_goes_0 (d : Nat) (Rq : SmQ) (l : SmL) (st : List SmV) (S : SmS) (I : SmI) : Prop :=
  im_ic 34 l st S I fun l st S I =>
  im_ic 6 l st S I fun l st S I =>
  im_iload 1 l st S I fun l st S I =>
  im_imul l st S I fun l st S I =>
  im_iadd l st S I fun l st S I =>
  im_istore 2 l st S I fun l st S I =>
  im_aload 0 l st S I fun l st S I =>
  im_iload 1 l st S I fun l st S I =>
  im_ic 3 l st S I fun l st S I =>
  im_p_X6_ofTrain d l st S I fun l st S I =>
  im_istore 3 l st S I fun l st S I =>
  im_aload 0 l st S I fun l st S I =>
  im_iload 1 l st S I fun l st S I =>
  im_iload 3 l st S I fun l st S I =>
  im_p_X6_nextFrom d l st S I fun l st S I =>
  im_istore 4 l st S I fun l st S I =>
  im_aload 0 l st S I fun l st S I =>
  im_getR 11 0 l st S I fun l st S I =>
  im_iload 2 l st S I fun l st S I =>
  im_ic 3 l st S I fun l st S I =>
  im_iadd l st S I fun l st S I =>
  im_iload 4 l st S I fun l st S I =>
  im_iast l st S I fun l st S I =>
  im_aload 0 l st S I fun l st S I =>
  im_getR 11 0 l st S I fun l st S I =>
  im_iload 2 l st S I fun l st S I =>
  im_ic 4 l st S I fun l st S I =>
  im_iadd l st S I fun l st S I =>
  im_ic 1 l st S I fun l st S I =>
  im_iast l st S I fun l st S I =>
  im_aload 0 l st S I fun l st S I =>
  im_getR 11 0 l st S I fun l st S I =>
  im_iload 2 l st S I fun l st S I =>
  im_ic 5 l st S I fun l st S I =>
  im_iadd l st S I fun l st S I =>
  im_aload 0 l st S I fun l st S I =>
  im_getR 11 0 l st S I fun l st S I =>
  im_ic 2 l st S I fun l st S I =>
  im_ald 100 l st S I fun l st S I =>
  im_aload 0 l st S I fun l st S I =>
  im_iload 3 l st S I fun l st S I =>
  im_iload 4 l st S I fun l st S I =>
  im_p_X6_minutesOf d l st S I fun l st S I =>
  im_iadd l st S I fun l st S I =>
  im_iast l st S I fun l st S I =>
  im_aload 0 l st S I fun l st S I =>
  im_iload 1 l st S I fun l st S I =>
  im_iload 3 l st S I fun l st S I =>
  im_callV 2 11 mi_X6_enters d (retK mi_X6_goes 67 70 d Rq l) st S I
theorem rv_X6_goes_0 {d : Nat} {Rq : SmQ} {l : SmL} {st : List SmV} {S : SmS} {I : SmI} (h : tr_X6_goes_0 d Rq l st S I) : SW mi_X6_goes 0 d Rq l st S I :=
  (show SmW mi_X6_goes 0 d Rq (tr_X6_goes_0 d Rq) from
  (xv_bipush dX6_goes_0 rfl (inRd rfl)
  (xv_bipush dX6_goes_2 rfl (inRd rfl)
  (xv_iload_n dX6_goes_4 rfl
  (xv_imul dX6_goes_5
  (xv_iadd dX6_goes_6
  (xv_istore_n dX6_goes_7 rfl (Nat.le_of_ble_eq_true rfl)
  (xv_aload_n dX6_goes_8 rfl
  (xv_iload_n dX6_goes_9 rfl
  (xv_iconst dX6_goes_10 rfl (inRd rfl)
  (xv_p_X6_ofTrain dX6_goes_11 (lw_V q2003 q2005 qs59 q117 q2006)
  (xv_istore_n dX6_goes_14 rfl (Nat.le_of_ble_eq_true rfl)
  (xv_aload_n dX6_goes_15 rfl
  (xv_iload_n dX6_goes_16 rfl
  (xv_iload_n dX6_goes_17 rfl
  (xv_p_X6_nextFrom dX6_goes_18 (lw_V q2057 q2059 qs71 q117 q2060)
  (xv_istore dX6_goes_21 (Nat.le_of_ble_eq_true rfl)
  (xv_aload_n dX6_goes_23 rfl
  (xv_getR (k := 0) dX6_goes_24 cl_11 tg_11 in_X6 (Nat.le_of_ble_eq_true rfl) rfl q1862
  (xv_iload_n dX6_goes_27 rfl
  (xv_iconst dX6_goes_28 rfl (inRd rfl)
  (xv_iadd dX6_goes_29
  (xv_iload dX6_goes_30
  (xv_iast dX6_goes_32
  (xv_aload_n dX6_goes_33 rfl
  (xv_getR (k := 0) dX6_goes_34 cl_11 tg_11 in_X6 (Nat.le_of_ble_eq_true rfl) rfl q1862
  (xv_iload_n dX6_goes_37 rfl
  (xv_iconst dX6_goes_38 rfl (inRd rfl)
  (xv_iadd dX6_goes_39
  (xv_iconst dX6_goes_40 rfl (inRd rfl)
  (xv_iast dX6_goes_41
  (xv_aload_n dX6_goes_42 rfl
  (xv_getR (k := 0) dX6_goes_43 cl_11 tg_11 in_X6 (Nat.le_of_ble_eq_true rfl) rfl q1862
  (xv_iload_n dX6_goes_46 rfl
  (xv_iconst dX6_goes_47 rfl (inRd rfl)
  (xv_iadd dX6_goes_48
  (xv_aload_n dX6_goes_49 rfl
  (xv_getR (k := 0) dX6_goes_50 cl_11 tg_11 in_X6 (Nat.le_of_ble_eq_true rfl) rfl q1862
  (xv_iconst dX6_goes_53 rfl (inRd rfl)
  (xv_iald dX6_goes_54
  (xv_aload_n dX6_goes_55 rfl
  (xv_iload_n dX6_goes_56 rfl
  (xv_iload dX6_goes_57
  (xv_p_X6_minutesOf dX6_goes_59 (lw_V q2141 q2143 qs88 q117 q2144)
  (xv_iadd dX6_goes_62
  (xv_iast dX6_goes_63
  (xv_aload_n dX6_goes_64 rfl
  (xv_iload_n dX6_goes_65 rfl
  (xv_iload_n dX6_goes_66 rfl
  (xv_callV dX6_goes_67 cl_11 tg_11 ok_X6_enters rfl (lw_V q2198 q2200 qs97 q117 q2201))))))))))))))))))))))))))))))))))))))))))))))))))) l st S I h
def tr_X6_goes_70 (d : Nat) (Rq : SmQ) (l : SmL) (st : List SmV) (S : SmS) (I : SmI) : Prop :=
  im_return Rq l st S I
theorem rv_X6_goes_70 {d : Nat} {Rq : SmQ} {l : SmL} {st : List SmV} {S : SmS} {I : SmI} (h : tr_X6_goes_70 d Rq l st S I) : SW mi_X6_goes 70 d Rq l st S I :=
  (show SmW mi_X6_goes 70 d Rq (tr_X6_goes_70 d Rq) from
  (xv_return dX6_goes_70 rfl)) l st S I h
def tr_X6_leavesJournal_0 (d : Nat) (Rq : SmQ) (l : SmL) (st : List SmV) (S : SmS) (I : SmI) : Prop :=
  im_ic 0 l st S I fun l st S I =>
  im_istore 2 l st S I fun l st S I =>
  im_ic 0 l st S I fun l st S I =>
  im_istore 3 l st S I fun l st S I =>
  SW mi_X6_leavesJournal 4 d Rq l st S I
theorem rv_X6_leavesJournal_0 {d : Nat} {Rq : SmQ} {l : SmL} {st : List SmV} {S : SmS} {I : SmI} (h : tr_X6_leavesJournal_0 d Rq l st S I) : SW mi_X6_leavesJournal 0 d Rq l st S I :=
  (show SmW mi_X6_leavesJournal 0 d Rq (tr_X6_leavesJournal_0 d Rq) from
  (xv_iconst dX6_leavesJournal_0 rfl (inRd rfl)
  (xv_istore_n dX6_leavesJournal_1 rfl (Nat.le_of_ble_eq_true rfl)
  (xv_iconst dX6_leavesJournal_2 rfl (inRd rfl)
  (xv_istore_n dX6_leavesJournal_3 rfl (Nat.le_of_ble_eq_true rfl)
  (fun _ _ _ _ h => h)))))) l st S I h
def tr_X6_leavesJournal_4 (d : Nat) (Rq : SmQ) (l : SmL) (st : List SmV) (S : SmS) (I : SmI) : Prop :=
  im_iload 3 l st S I fun l st S I =>
  im_aload 0 l st S I fun l st S I =>
  im_getR 11 0 l st S I fun l st S I =>
  im_ic 3 l st S I fun l st S I =>
  im_ald 100 l st S I fun l st S I =>
  im_cge l st S I (fun l st S I =>
  im_aload 0 l st S I fun l st S I =>
  im_getR 11 0 l st S I fun l st S I =>
  im_ic 3 l st S I fun l st S I =>
  im_iload 2 l st S I fun l st S I =>
  im_iast l st S I fun l st S I =>
  im_return Rq l st S I) (fun l st S I =>
  im_aload 0 l st S I fun l st S I =>
  im_iload 3 l st S I fun l st S I =>
  im_ic 1 l st S I fun l st S I =>
  im_p_X6_entry d l st S I fun l st S I =>
  im_istore 4 l st S I fun l st S I =>
  im_iload 4 l st S I fun l st S I =>
  im_iload 1 l st S I fun l st S I =>
  im_ceq l st S I (fun l st S I =>
  im_iinc 3 1 l st S I fun l st S I =>
  SW mi_X6_leavesJournal 4 d Rq l st S I) (fun l st S I =>
  im_aload 0 l st S I fun l st S I =>
  im_iload 3 l st S I fun l st S I =>
  im_ic 0 l st S I fun l st S I =>
  im_p_X6_entry d l st S I fun l st S I =>
  im_istore 5 l st S I fun l st S I =>
  im_aload 0 l st S I fun l st S I =>
  im_iload 3 l st S I fun l st S I =>
  im_ic 2 l st S I fun l st S I =>
  im_p_X6_entry d l st S I fun l st S I =>
  im_istore 6 l st S I fun l st S I =>
  im_aload 0 l st S I fun l st S I =>
  im_getR 11 0 l st S I fun l st S I =>
  im_ic 58 l st S I fun l st S I =>
  im_ic 3 l st S I fun l st S I =>
  im_iload 2 l st S I fun l st S I =>
  im_imul l st S I fun l st S I =>
  im_iadd l st S I fun l st S I =>
  im_ic 0 l st S I fun l st S I =>
  im_iadd l st S I fun l st S I =>
  im_iload 5 l st S I fun l st S I =>
  im_iast l st S I fun l st S I =>
  im_aload 0 l st S I fun l st S I =>
  im_getR 11 0 l st S I fun l st S I =>
  im_ic 58 l st S I fun l st S I =>
  im_ic 3 l st S I fun l st S I =>
  im_iload 2 l st S I fun l st S I =>
  im_imul l st S I fun l st S I =>
  im_iadd l st S I fun l st S I =>
  im_ic 1 l st S I fun l st S I =>
  im_iadd l st S I fun l st S I =>
  im_iload 4 l st S I fun l st S I =>
  im_iload 1 l st S I fun l st S I =>
  im_cle l st S I (fun l st S I =>
  im_iload 4 l st S I fun l st S I =>
  SW mi_X6_leavesJournal 86 d Rq l st S I) (fun l st S I =>
  im_iload 4 l st S I fun l st S I =>
  im_ic 1 l st S I fun l st S I =>
  im_isub l st S I fun l st S I =>
  SW mi_X6_leavesJournal 86 d Rq l st S I)))
theorem rv_X6_leavesJournal_4 {d : Nat} {Rq : SmQ} {l : SmL} {st : List SmV} {S : SmS} {I : SmI} (h : tr_X6_leavesJournal_4 d Rq l st S I) : SW mi_X6_leavesJournal 4 d Rq l st S I :=
  (show SmW mi_X6_leavesJournal 4 d Rq (tr_X6_leavesJournal_4 d Rq) from
  (xv_iload_n dX6_leavesJournal_4 rfl
  (xv_aload_n dX6_leavesJournal_5 rfl
  (xv_getR (k := 0) dX6_leavesJournal_6 cl_11 tg_11 in_X6 (Nat.le_of_ble_eq_true rfl) rfl q1862
  (xv_iconst dX6_leavesJournal_9 rfl (inRd rfl)
  (xv_iald dX6_leavesJournal_10
  (xv_cge dX6_leavesJournal_11 rfl
  (xv_aload_n dX6_leavesJournal_111 rfl
  (xv_getR (k := 0) dX6_leavesJournal_112 cl_11 tg_11 in_X6 (Nat.le_of_ble_eq_true rfl) rfl q1862
  (xv_iconst dX6_leavesJournal_115 rfl (inRd rfl)
  (xv_iload_n dX6_leavesJournal_116 rfl
  (xv_iast dX6_leavesJournal_117
  (xv_return dX6_leavesJournal_118 rfl))))))
  (xv_aload_n dX6_leavesJournal_14 rfl
  (xv_iload_n dX6_leavesJournal_15 rfl
  (xv_iconst dX6_leavesJournal_16 rfl (inRd rfl)
  (xv_p_X6_entry dX6_leavesJournal_17 (lw_V q2202 q2204 qs98 q117 q2205)
  (xv_istore dX6_leavesJournal_20 (Nat.le_of_ble_eq_true rfl)
  (xv_iload dX6_leavesJournal_22
  (xv_iload_n dX6_leavesJournal_24 rfl
  (xv_ceq dX6_leavesJournal_25 rfl
  (xv_iinc dX6_leavesJournal_105 (Nat.le_of_ble_eq_true rfl)
  (xv_goto dX6_leavesJournal_108 rfl (fun _ _ _ _ h => h)))
  (xv_aload_n dX6_leavesJournal_28 rfl
  (xv_iload_n dX6_leavesJournal_29 rfl
  (xv_iconst dX6_leavesJournal_30 rfl (inRd rfl)
  (xv_p_X6_entry dX6_leavesJournal_31 (lw_V q2202 q2204 qs98 q117 q2205)
  (xv_istore dX6_leavesJournal_34 (Nat.le_of_ble_eq_true rfl)
  (xv_aload_n dX6_leavesJournal_36 rfl
  (xv_iload_n dX6_leavesJournal_37 rfl
  (xv_iconst dX6_leavesJournal_38 rfl (inRd rfl)
  (xv_p_X6_entry dX6_leavesJournal_39 (lw_V q2202 q2204 qs98 q117 q2205)
  (xv_istore dX6_leavesJournal_42 (Nat.le_of_ble_eq_true rfl)
  (xv_aload_n dX6_leavesJournal_44 rfl
  (xv_getR (k := 0) dX6_leavesJournal_45 cl_11 tg_11 in_X6 (Nat.le_of_ble_eq_true rfl) rfl q1862
  (xv_bipush dX6_leavesJournal_48 rfl (inRd rfl)
  (xv_iconst dX6_leavesJournal_50 rfl (inRd rfl)
  (xv_iload_n dX6_leavesJournal_51 rfl
  (xv_imul dX6_leavesJournal_52
  (xv_iadd dX6_leavesJournal_53
  (xv_iconst dX6_leavesJournal_54 rfl (inRd rfl)
  (xv_iadd dX6_leavesJournal_55
  (xv_iload dX6_leavesJournal_56
  (xv_iast dX6_leavesJournal_58
  (xv_aload_n dX6_leavesJournal_59 rfl
  (xv_getR (k := 0) dX6_leavesJournal_60 cl_11 tg_11 in_X6 (Nat.le_of_ble_eq_true rfl) rfl q1862
  (xv_bipush dX6_leavesJournal_63 rfl (inRd rfl)
  (xv_iconst dX6_leavesJournal_65 rfl (inRd rfl)
  (xv_iload_n dX6_leavesJournal_66 rfl
  (xv_imul dX6_leavesJournal_67
  (xv_iadd dX6_leavesJournal_68
  (xv_iconst dX6_leavesJournal_69 rfl (inRd rfl)
  (xv_iadd dX6_leavesJournal_70
  (xv_iload dX6_leavesJournal_71
  (xv_iload_n dX6_leavesJournal_73 rfl
  (xv_cle dX6_leavesJournal_74 rfl
  (xv_iload dX6_leavesJournal_84
  (fun _ _ _ _ h => h))
  (xv_iload dX6_leavesJournal_77
  (xv_iconst dX6_leavesJournal_79 rfl (inRd rfl)
  (xv_isub dX6_leavesJournal_80
  (xv_goto dX6_leavesJournal_81 rfl (fun _ _ _ _ h => h))))))))))))))))))))))))))))))))))))))))))))))))))))) l st S I h
def tr_X6_leavesJournal_86 (d : Nat) (Rq : SmQ) (l : SmL) (st : List SmV) (S : SmS) (I : SmI) : Prop :=
  im_iast l st S I fun l st S I =>
  im_aload 0 l st S I fun l st S I =>
  im_getR 11 0 l st S I fun l st S I =>
  im_ic 58 l st S I fun l st S I =>
  im_ic 3 l st S I fun l st S I =>
  im_iload 2 l st S I fun l st S I =>
  im_imul l st S I fun l st S I =>
  im_iadd l st S I fun l st S I =>
  im_ic 2 l st S I fun l st S I =>
  im_iadd l st S I fun l st S I =>
  im_iload 6 l st S I fun l st S I =>
  im_iast l st S I fun l st S I =>
  im_iinc 2 1 l st S I fun l st S I =>
  im_iinc 3 1 l st S I fun l st S I =>
  SW mi_X6_leavesJournal 4 d Rq l st S I
theorem rv_X6_leavesJournal_86 {d : Nat} {Rq : SmQ} {l : SmL} {st : List SmV} {S : SmS} {I : SmI} (h : tr_X6_leavesJournal_86 d Rq l st S I) : SW mi_X6_leavesJournal 86 d Rq l st S I :=
  (show SmW mi_X6_leavesJournal 86 d Rq (tr_X6_leavesJournal_86 d Rq) from
  (xv_iast dX6_leavesJournal_86
  (xv_aload_n dX6_leavesJournal_87 rfl
  (xv_getR (k := 0) dX6_leavesJournal_88 cl_11 tg_11 in_X6 (Nat.le_of_ble_eq_true rfl) rfl q1862
  (xv_bipush dX6_leavesJournal_91 rfl (inRd rfl)
  (xv_iconst dX6_leavesJournal_93 rfl (inRd rfl)
  (xv_iload_n dX6_leavesJournal_94 rfl
  (xv_imul dX6_leavesJournal_95
  (xv_iadd dX6_leavesJournal_96
  (xv_iconst dX6_leavesJournal_97 rfl (inRd rfl)
  (xv_iadd dX6_leavesJournal_98
  (xv_iload dX6_leavesJournal_99
  (xv_iast dX6_leavesJournal_101
  (xv_iinc dX6_leavesJournal_102 (Nat.le_of_ble_eq_true rfl)
  (xv_iinc dX6_leavesJournal_105 (Nat.le_of_ble_eq_true rfl)
  (xv_goto dX6_leavesJournal_108 rfl (fun _ _ _ _ h => h))))))))))))))))) l st S I h
def tr_X6_place_0 (d : Nat) (Rq : SmQ) (l : SmL) (st : List SmV) (S : SmS) (I : SmI) : Prop :=
  im_aload 0 l st S I fun l st S I =>
  im_iload 1 l st S I fun l st S I =>
  im_p_X6_isPlace d l st S I fun l st S I =>
  im_zne l st S I (fun l st S I =>
  im_iload 2 l st S I fun l st S I =>
  im_tsw 0 5 [(fun l st S I =>
  im_aload 0 l st S I fun l st S I =>
  im_iload 1 l st S I fun l st S I =>
  im_ic 0 l st S I fun l st S I =>
  im_p_X6_ofPlace d l st S I fun l st S I =>
  im_ireturn Rq l st S I), (fun l st S I =>
  im_aload 0 l st S I fun l st S I =>
  im_iload 1 l st S I fun l st S I =>
  im_iload 2 l st S I fun l st S I =>
  im_ic 1 l st S I fun l st S I =>
  im_isub l st S I fun l st S I =>
  im_p_X6_trackOf d l st S I fun l st S I =>
  im_ireturn Rq l st S I), (fun l st S I =>
  im_aload 0 l st S I fun l st S I =>
  im_iload 1 l st S I fun l st S I =>
  im_iload 2 l st S I fun l st S I =>
  im_ic 1 l st S I fun l st S I =>
  im_isub l st S I fun l st S I =>
  im_p_X6_trackOf d l st S I fun l st S I =>
  im_ireturn Rq l st S I), (fun l st S I =>
  im_aload 0 l st S I fun l st S I =>
  im_iload 1 l st S I fun l st S I =>
  im_iload 2 l st S I fun l st S I =>
  im_ic 1 l st S I fun l st S I =>
  im_isub l st S I fun l st S I =>
  im_p_X6_trackOf d l st S I fun l st S I =>
  im_ireturn Rq l st S I), (fun l st S I =>
  im_aload 0 l st S I fun l st S I =>
  im_iload 1 l st S I fun l st S I =>
  im_p_X6_trainsAt d l st S I fun l st S I =>
  im_ireturn Rq l st S I), (fun l st S I =>
  im_iload 1 l st S I fun l st S I =>
  im_aload 0 l st S I fun l st S I =>
  im_getR 11 0 l st S I fun l st S I =>
  im_ic 0 l st S I fun l st S I =>
  im_ald 100 l st S I fun l st S I =>
  im_ic 1 l st S I fun l st S I =>
  im_isub l st S I fun l st S I =>
  im_cne l st S I (fun l st S I =>
  im_aload 0 l st S I fun l st S I =>
  im_iload 1 l st S I fun l st S I =>
  im_ic 4 l st S I fun l st S I =>
  im_p_X6_ofPlace d l st S I fun l st S I =>
  im_ireturn Rq l st S I) (fun l st S I =>
  im_ic (-4) l st S I fun l st S I =>
  im_ireturn Rq l st S I))] (fun l st S I =>
  im_ic (-1) l st S I fun l st S I =>
  im_ireturn Rq l st S I) l st S I) (fun l st S I =>
  im_ic (-1) l st S I fun l st S I =>
  im_ireturn Rq l st S I)
theorem rv_X6_place_0 {d : Nat} {Rq : SmQ} {l : SmL} {st : List SmV} {S : SmS} {I : SmI} (h : tr_X6_place_0 d Rq l st S I) : SW mi_X6_place 0 d Rq l st S I :=
  (show SmW mi_X6_place 0 d Rq (tr_X6_place_0 d Rq) from
  (xv_aload_n dX6_place_0 rfl
  (xv_iload_n dX6_place_1 rfl
  (xv_p_X6_isPlace dX6_place_2 (lw_V q2117 q2119 qs83 q117 q2120)
  (xv_zne dX6_place_5 rfl
  (xv_iload_n dX6_place_10 rfl
  (xv_tsw dX6_place_11 rfl ⟨⟨48, rfl, (xv_aload_n dX6_place_48 rfl
  (xv_iload_n dX6_place_49 rfl
  (xv_iconst dX6_place_50 rfl (inRd rfl)
  (xv_p_X6_ofPlace dX6_place_51 (lw_V q2041 q2043 qs67 q117 q2044)
  (xv_ireturn dX6_place_54 rfl)))))⟩, ⟨55, rfl, (xv_aload_n dX6_place_55 rfl
  (xv_iload_n dX6_place_56 rfl
  (xv_iload_n dX6_place_57 rfl
  (xv_iconst dX6_place_58 rfl (inRd rfl)
  (xv_isub dX6_place_59
  (xv_p_X6_trackOf dX6_place_60 (lw_V q2121 q2123 qs84 q117 q2124)
  (xv_ireturn dX6_place_63 rfl)))))))⟩, ⟨55, rfl, (xv_aload_n dX6_place_55 rfl
  (xv_iload_n dX6_place_56 rfl
  (xv_iload_n dX6_place_57 rfl
  (xv_iconst dX6_place_58 rfl (inRd rfl)
  (xv_isub dX6_place_59
  (xv_p_X6_trackOf dX6_place_60 (lw_V q2121 q2123 qs84 q117 q2124)
  (xv_ireturn dX6_place_63 rfl)))))))⟩, ⟨55, rfl, (xv_aload_n dX6_place_55 rfl
  (xv_iload_n dX6_place_56 rfl
  (xv_iload_n dX6_place_57 rfl
  (xv_iconst dX6_place_58 rfl (inRd rfl)
  (xv_isub dX6_place_59
  (xv_p_X6_trackOf dX6_place_60 (lw_V q2121 q2123 qs84 q117 q2124)
  (xv_ireturn dX6_place_63 rfl)))))))⟩, ⟨64, rfl, (xv_aload_n dX6_place_64 rfl
  (xv_iload_n dX6_place_65 rfl
  (xv_p_X6_trainsAt dX6_place_66 (lw_V q2125 q2127 qs85 q117 q2128)
  (xv_ireturn dX6_place_69 rfl))))⟩, ⟨70, rfl, (xv_iload_n dX6_place_70 rfl
  (xv_aload_n dX6_place_71 rfl
  (xv_getR (k := 0) dX6_place_72 cl_11 tg_11 in_X6 (Nat.le_of_ble_eq_true rfl) rfl q1862
  (xv_iconst dX6_place_75 rfl (inRd rfl)
  (xv_iald dX6_place_76
  (xv_iconst dX6_place_77 rfl (inRd rfl)
  (xv_isub dX6_place_78
  (xv_cne dX6_place_79 rfl
  (xv_aload_n dX6_place_87 rfl
  (xv_iload_n dX6_place_88 rfl
  (xv_iconst dX6_place_89 rfl (inRd rfl)
  (xv_p_X6_ofPlace dX6_place_90 (lw_V q2041 q2043 qs67 q117 q2044)
  (xv_ireturn dX6_place_93 rfl)))))
  (xv_bipush dX6_place_82 rfl (inRd rfl)
  (xv_goto dX6_place_84 rfl (xv_ireturn dX6_place_93 rfl)))))))))))⟩, trivial⟩ rfl (xv_iconst dX6_place_94 rfl (inRd rfl)
  (xv_ireturn dX6_place_95 rfl))))
  (xv_iconst dX6_place_8 rfl (inRd rfl)
  (xv_ireturn dX6_place_9 rfl))))))) l st S I h
def tr_X6_journal_0 (d : Nat) (Rq : SmQ) (l : SmL) (st : List SmV) (S : SmS) (I : SmI) : Prop :=
  im_iload 1 l st S I fun l st S I =>
  im_zlt l st S I (fun l st S I =>
  im_ic (-1) l st S I fun l st S I =>
  im_ireturn Rq l st S I) (fun l st S I =>
  im_iload 2 l st S I fun l st S I =>
  im_i2l l st S I fun l st S I =>
  im_lc 0 l st S I fun l st S I =>
  im_lc 2 l st S I fun l st S I =>
  im_p_X6_in d l st S I fun l st S I =>
  im_zne l st S I (fun l st S I =>
  im_iload 1 l st S I fun l st S I =>
  im_aload 0 l st S I fun l st S I =>
  im_getR 11 0 l st S I fun l st S I =>
  im_ic 3 l st S I fun l st S I =>
  im_ald 100 l st S I fun l st S I =>
  im_cge l st S I (fun l st S I =>
  im_ic (-4) l st S I fun l st S I =>
  im_ireturn Rq l st S I) (fun l st S I =>
  im_aload 0 l st S I fun l st S I =>
  im_iload 1 l st S I fun l st S I =>
  im_iload 2 l st S I fun l st S I =>
  im_p_X6_entry d l st S I fun l st S I =>
  im_ireturn Rq l st S I)) (fun l st S I =>
  im_ic (-1) l st S I fun l st S I =>
  im_ireturn Rq l st S I))
theorem rv_X6_journal_0 {d : Nat} {Rq : SmQ} {l : SmL} {st : List SmV} {S : SmS} {I : SmI} (h : tr_X6_journal_0 d Rq l st S I) : SW mi_X6_journal 0 d Rq l st S I :=
  (show SmW mi_X6_journal 0 d Rq (tr_X6_journal_0 d Rq) from
  (xv_iload_n dX6_journal_0 rfl
  (xv_zlt dX6_journal_1 rfl
  (xv_iconst dX6_journal_16 rfl (inRd rfl)
  (xv_ireturn dX6_journal_17 rfl))
  (xv_iload_n dX6_journal_4 rfl
  (xv_i2l dX6_journal_5
  (xv_lconst dX6_journal_6 rfl (inR64d rfl)
  (xv_ldc2 dX6_journal_7 q2177 rfl (inR64d rfl)
  (xv_p_X6_in dX6_journal_10 (lw_S q1940 q1941 q117 q1942)
  (xv_zne dX6_journal_13 rfl
  (xv_iload_n dX6_journal_18 rfl
  (xv_aload_n dX6_journal_19 rfl
  (xv_getR (k := 0) dX6_journal_20 cl_11 tg_11 in_X6 (Nat.le_of_ble_eq_true rfl) rfl q1862
  (xv_iconst dX6_journal_23 rfl (inRd rfl)
  (xv_iald dX6_journal_24
  (xv_cge dX6_journal_25 rfl
  (xv_bipush dX6_journal_37 rfl (inRd rfl)
  (xv_ireturn dX6_journal_39 rfl))
  (xv_aload_n dX6_journal_28 rfl
  (xv_iload_n dX6_journal_29 rfl
  (xv_iload_n dX6_journal_30 rfl
  (xv_p_X6_entry dX6_journal_31 (lw_V q2202 q2204 qs98 q117 q2205)
  (xv_goto dX6_journal_34 rfl (xv_ireturn dX6_journal_39 rfl))))))))))))
  (xv_iconst dX6_journal_16 rfl (inRd rfl)
  (xv_ireturn dX6_journal_17 rfl))))))))))) l st S I h
def tr_X6_sheet_0 (d : Nat) (Rq : SmQ) (l : SmL) (st : List SmV) (S : SmS) (I : SmI) : Prop :=
  im_iload 1 l st S I fun l st S I =>
  im_iload 2 l st S I fun l st S I =>
  im_p_X6_isSheet d l st S I fun l st S I =>
  im_zeq l st S I (fun l st S I =>
  im_ic (-1) l st S I fun l st S I =>
  im_ireturn Rq l st S I) (fun l st S I =>
  im_iload 3 l st S I fun l st S I =>
  im_ic 40 l st S I fun l st S I =>
  im_cle l st S I (fun l st S I =>
  im_iload 3 l st S I fun l st S I =>
  im_zge l st S I (fun l st S I =>
  im_aload 0 l st S I fun l st S I =>
  im_getR 11 20 l st S I fun l st S I =>
  im_iload 1 l st S I fun l st S I =>
  im_iload 2 l st S I fun l st S I =>
  im_iast l st S I fun l st S I =>
  im_aload 0 l st S I fun l st S I =>
  im_getR 11 21 l st S I fun l st S I =>
  im_iload 1 l st S I fun l st S I =>
  im_iload 3 l st S I fun l st S I =>
  im_iast l st S I fun l st S I =>
  im_ic 0 l st S I fun l st S I =>
  im_istore 4 l st S I fun l st S I =>
  SW mi_X6_sheet 40 d Rq l st S I) (fun l st S I =>
  im_ic (-14) l st S I fun l st S I =>
  im_ireturn Rq l st S I)) (fun l st S I =>
  im_ic (-1) l st S I fun l st S I =>
  im_ireturn Rq l st S I))
theorem rv_X6_sheet_0 {d : Nat} {Rq : SmQ} {l : SmL} {st : List SmV} {S : SmS} {I : SmI} (h : tr_X6_sheet_0 d Rq l st S I) : SW mi_X6_sheet 0 d Rq l st S I :=
  (show SmW mi_X6_sheet 0 d Rq (tr_X6_sheet_0 d Rq) from
  (xv_iload_n dX6_sheet_0 rfl
  (xv_iload_n dX6_sheet_1 rfl
  (xv_p_X6_isSheet dX6_sheet_2 (lw_S q2267 q2268 q117 q2269)
  (xv_zeq dX6_sheet_5 rfl
  (xv_iconst dX6_sheet_14 rfl (inRd rfl)
  (xv_ireturn dX6_sheet_15 rfl))
  (xv_iload_n dX6_sheet_8 rfl
  (xv_bipush dX6_sheet_9 rfl (inRd rfl)
  (xv_cle dX6_sheet_11 rfl
  (xv_iload_n dX6_sheet_16 rfl
  (xv_zge dX6_sheet_17 rfl
  (xv_aload_n dX6_sheet_23 rfl
  (xv_getR (k := 20) dX6_sheet_24 cl_11 tg_11 in_X6 (Nat.le_of_ble_eq_true rfl) rfl q1882
  (xv_iload_n dX6_sheet_27 rfl
  (xv_iload_n dX6_sheet_28 rfl
  (xv_iast dX6_sheet_29
  (xv_aload_n dX6_sheet_30 rfl
  (xv_getR (k := 21) dX6_sheet_31 cl_11 tg_11 in_X6 (Nat.le_of_ble_eq_true rfl) rfl q1883
  (xv_iload_n dX6_sheet_34 rfl
  (xv_iload_n dX6_sheet_35 rfl
  (xv_iast dX6_sheet_36
  (xv_iconst dX6_sheet_37 rfl (inRd rfl)
  (xv_istore dX6_sheet_38 (Nat.le_of_ble_eq_true rfl)
  (fun _ _ _ _ h => h)))))))))))))
  (xv_bipush dX6_sheet_20 rfl (inRd rfl)
  (xv_ireturn dX6_sheet_22 rfl))))
  (xv_iconst dX6_sheet_14 rfl (inRd rfl)
  (xv_ireturn dX6_sheet_15 rfl)))))))))) l st S I h
def tr_X6_sheet_40 (d : Nat) (Rq : SmQ) (l : SmL) (st : List SmV) (S : SmS) (I : SmI) : Prop :=
  im_iload 4 l st S I fun l st S I =>
  im_ic 40 l st S I fun l st S I =>
  im_cge l st S I (fun l st S I =>
  im_ic 1 l st S I fun l st S I =>
  im_ireturn Rq l st S I) (fun l st S I =>
  im_aload 0 l st S I fun l st S I =>
  im_getR 11 22 l st S I fun l st S I =>
  im_ic 40 l st S I fun l st S I =>
  im_iload 1 l st S I fun l st S I =>
  im_imul l st S I fun l st S I =>
  im_iload 4 l st S I fun l st S I =>
  im_iadd l st S I fun l st S I =>
  im_ic 0 l st S I fun l st S I =>
  im_iast l st S I fun l st S I =>
  im_iinc 4 1 l st S I fun l st S I =>
  SW mi_X6_sheet 40 d Rq l st S I)
theorem rv_X6_sheet_40 {d : Nat} {Rq : SmQ} {l : SmL} {st : List SmV} {S : SmS} {I : SmI} (h : tr_X6_sheet_40 d Rq l st S I) : SW mi_X6_sheet 40 d Rq l st S I :=
  (show SmW mi_X6_sheet 40 d Rq (tr_X6_sheet_40 d Rq) from
  (xv_iload dX6_sheet_40
  (xv_bipush dX6_sheet_42 rfl (inRd rfl)
  (xv_cge dX6_sheet_44 rfl
  (xv_iconst dX6_sheet_66 rfl (inRd rfl)
  (xv_ireturn dX6_sheet_67 rfl))
  (xv_aload_n dX6_sheet_47 rfl
  (xv_getR (k := 22) dX6_sheet_48 cl_11 tg_11 in_X6 (Nat.le_of_ble_eq_true rfl) rfl q1884
  (xv_bipush dX6_sheet_51 rfl (inRd rfl)
  (xv_iload_n dX6_sheet_53 rfl
  (xv_imul dX6_sheet_54
  (xv_iload dX6_sheet_55
  (xv_iadd dX6_sheet_57
  (xv_iconst dX6_sheet_58 rfl (inRd rfl)
  (xv_iast dX6_sheet_59
  (xv_iinc dX6_sheet_60 (Nat.le_of_ble_eq_true rfl)
  (xv_goto dX6_sheet_63 rfl (fun _ _ _ _ h => h)))))))))))))))) l st S I h
def tr_X6_lay_0 (d : Nat) (Rq : SmQ) (l : SmL) (st : List SmV) (S : SmS) (I : SmI) : Prop :=
  im_iload 1 l st S I fun l st S I =>
  im_ic 0 l st S I fun l st S I =>
  im_p_X6_isSheet d l st S I fun l st S I =>
  im_zne l st S I (fun l st S I =>
  im_aload 0 l st S I fun l st S I =>
  im_getR 11 20 l st S I fun l st S I =>
  im_iload 1 l st S I fun l st S I =>
  im_ald 100 l st S I fun l st S I =>
  im_ic (-4) l st S I fun l st S I =>
  im_cne l st S I (fun l st S I =>
  im_iload 2 l st S I fun l st S I =>
  im_i2l l st S I fun l st S I =>
  im_lc 0 l st S I fun l st S I =>
  im_aload 0 l st S I fun l st S I =>
  im_getR 11 21 l st S I fun l st S I =>
  im_iload 1 l st S I fun l st S I =>
  im_ald 100 l st S I fun l st S I =>
  im_ic 1 l st S I fun l st S I =>
  im_isub l st S I fun l st S I =>
  im_i2l l st S I fun l st S I =>
  im_p_X6_in d l st S I fun l st S I =>
  im_zne l st S I (fun l st S I =>
  im_aload 0 l st S I fun l st S I =>
  im_getR 11 22 l st S I fun l st S I =>
  im_ic 40 l st S I fun l st S I =>
  im_iload 1 l st S I fun l st S I =>
  im_imul l st S I fun l st S I =>
  im_iload 2 l st S I fun l st S I =>
  im_iadd l st S I fun l st S I =>
  im_aload 0 l st S I fun l st S I =>
  im_getR 11 20 l st S I fun l st S I =>
  im_iload 1 l st S I fun l st S I =>
  im_ald 100 l st S I fun l st S I =>
  im_zne l st S I (fun l st S I =>
  im_aload 0 l st S I fun l st S I =>
  im_getR 11 20 l st S I fun l st S I =>
  im_iload 1 l st S I fun l st S I =>
  im_ald 100 l st S I fun l st S I =>
  im_ic 1 l st S I fun l st S I =>
  im_cne l st S I (fun l st S I =>
  im_iload 3 l st S I fun l st S I =>
  im_iast l st S I fun l st S I =>
  im_ic 1 l st S I fun l st S I =>
  im_ireturn Rq l st S I) (fun l st S I =>
  im_iload 3 l st S I fun l st S I =>
  im_i2s l st S I fun l st S I =>
  im_iast l st S I fun l st S I =>
  im_ic 1 l st S I fun l st S I =>
  im_ireturn Rq l st S I)) (fun l st S I =>
  im_iload 3 l st S I fun l st S I =>
  im_i2b l st S I fun l st S I =>
  im_iast l st S I fun l st S I =>
  im_ic 1 l st S I fun l st S I =>
  im_ireturn Rq l st S I)) (fun l st S I =>
  im_ic (-12) l st S I fun l st S I =>
  im_ireturn Rq l st S I)) (fun l st S I =>
  im_ic (-11) l st S I fun l st S I =>
  im_ireturn Rq l st S I)) (fun l st S I =>
  im_ic (-1) l st S I fun l st S I =>
  im_ireturn Rq l st S I)
theorem rv_X6_lay_0 {d : Nat} {Rq : SmQ} {l : SmL} {st : List SmV} {S : SmS} {I : SmI} (h : tr_X6_lay_0 d Rq l st S I) : SW mi_X6_lay 0 d Rq l st S I :=
  (show SmW mi_X6_lay 0 d Rq (tr_X6_lay_0 d Rq) from
  (xv_iload_n dX6_lay_0 rfl
  (xv_iconst dX6_lay_1 rfl (inRd rfl)
  (xv_p_X6_isSheet dX6_lay_2 (lw_S q2267 q2268 q117 q2269)
  (xv_zne dX6_lay_5 rfl
  (xv_aload_n dX6_lay_10 rfl
  (xv_getR (k := 20) dX6_lay_11 cl_11 tg_11 in_X6 (Nat.le_of_ble_eq_true rfl) rfl q1882
  (xv_iload_n dX6_lay_14 rfl
  (xv_iald dX6_lay_15
  (xv_bipush dX6_lay_16 rfl (inRd rfl)
  (xv_cne dX6_lay_18 rfl
  (xv_iload_n dX6_lay_24 rfl
  (xv_i2l dX6_lay_25
  (xv_lconst dX6_lay_26 rfl (inR64d rfl)
  (xv_aload_n dX6_lay_27 rfl
  (xv_getR (k := 21) dX6_lay_28 cl_11 tg_11 in_X6 (Nat.le_of_ble_eq_true rfl) rfl q1883
  (xv_iload_n dX6_lay_31 rfl
  (xv_iald dX6_lay_32
  (xv_iconst dX6_lay_33 rfl (inRd rfl)
  (xv_isub dX6_lay_34
  (xv_i2l dX6_lay_35
  (xv_p_X6_in dX6_lay_36 (lw_S q1940 q1941 q117 q1942)
  (xv_zne dX6_lay_39 rfl
  (xv_aload_n dX6_lay_45 rfl
  (xv_getR (k := 22) dX6_lay_46 cl_11 tg_11 in_X6 (Nat.le_of_ble_eq_true rfl) rfl q1884
  (xv_bipush dX6_lay_49 rfl (inRd rfl)
  (xv_iload_n dX6_lay_51 rfl
  (xv_imul dX6_lay_52
  (xv_iload_n dX6_lay_53 rfl
  (xv_iadd dX6_lay_54
  (xv_aload_n dX6_lay_55 rfl
  (xv_getR (k := 20) dX6_lay_56 cl_11 tg_11 in_X6 (Nat.le_of_ble_eq_true rfl) rfl q1882
  (xv_iload_n dX6_lay_59 rfl
  (xv_iald dX6_lay_60
  (xv_zne dX6_lay_61 rfl
  (xv_aload_n dX6_lay_69 rfl
  (xv_getR (k := 20) dX6_lay_70 cl_11 tg_11 in_X6 (Nat.le_of_ble_eq_true rfl) rfl q1882
  (xv_iload_n dX6_lay_73 rfl
  (xv_iald dX6_lay_74
  (xv_iconst dX6_lay_75 rfl (inRd rfl)
  (xv_cne dX6_lay_76 rfl
  (xv_iload_n dX6_lay_84 rfl
  (xv_iast dX6_lay_85
  (xv_iconst dX6_lay_86 rfl (inRd rfl)
  (xv_ireturn dX6_lay_87 rfl))))
  (xv_iload_n dX6_lay_79 rfl
  (xv_i2s dX6_lay_80
  (xv_goto dX6_lay_81 rfl (xv_iast dX6_lay_85
  (xv_iconst dX6_lay_86 rfl (inRd rfl)
  (xv_ireturn dX6_lay_87 rfl))))))))))))
  (xv_iload_n dX6_lay_64 rfl
  (xv_i2b dX6_lay_65
  (xv_goto dX6_lay_66 rfl (xv_iast dX6_lay_85
  (xv_iconst dX6_lay_86 rfl (inRd rfl)
  (xv_ireturn dX6_lay_87 rfl))))))))))))))))))
  (xv_bipush dX6_lay_42 rfl (inRd rfl)
  (xv_ireturn dX6_lay_44 rfl))))))))))))))
  (xv_bipush dX6_lay_21 rfl (inRd rfl)
  (xv_ireturn dX6_lay_23 rfl))))))))
  (xv_iconst dX6_lay_8 rfl (inRd rfl)
  (xv_ireturn dX6_lay_9 rfl))))))) l st S I h
def tr_X6_keep_0 (d : Nat) (Rq : SmQ) (l : SmL) (st : List SmV) (S : SmS) (I : SmI) : Prop :=
  im_iload 1 l st S I fun l st S I =>
  im_i2l l st S I fun l st S I =>
  im_lc 0 l st S I fun l st S I =>
  im_lc 1 l st S I fun l st S I =>
  im_p_X6_in d l st S I fun l st S I =>
  im_zne l st S I (fun l st S I =>
  im_aload 0 l st S I fun l st S I =>
  im_getR 11 4 l st S I fun l st S I =>
  im_iload 1 l st S I fun l st S I =>
  im_ald 102 l st S I fun l st S I =>
  im_p_X6_flag d l st S I fun l st S I =>
  im_istore 2 l st S I fun l st S I =>
  im_aload 0 l st S I fun l st S I =>
  im_getR 11 4 l st S I fun l st S I =>
  im_iload 1 l st S I fun l st S I =>
  im_ic 1 l st S I fun l st S I =>
  im_zast l st S I fun l st S I =>
  im_ic 0 l st S I fun l st S I =>
  im_istore 3 l st S I fun l st S I =>
  SW mi_X6_keep 31 d Rq l st S I) (fun l st S I =>
  im_ic (-1) l st S I fun l st S I =>
  im_ireturn Rq l st S I)
theorem rv_X6_keep_0 {d : Nat} {Rq : SmQ} {l : SmL} {st : List SmV} {S : SmS} {I : SmI} (h : tr_X6_keep_0 d Rq l st S I) : SW mi_X6_keep 0 d Rq l st S I :=
  (show SmW mi_X6_keep 0 d Rq (tr_X6_keep_0 d Rq) from
  (xv_iload_n dX6_keep_0 rfl
  (xv_i2l dX6_keep_1
  (xv_lconst dX6_keep_2 rfl (inR64d rfl)
  (xv_lconst dX6_keep_3 rfl (inR64d rfl)
  (xv_p_X6_in dX6_keep_4 (lw_S q1940 q1941 q117 q1942)
  (xv_zne dX6_keep_7 rfl
  (xv_aload_n dX6_keep_12 rfl
  (xv_getR (k := 4) dX6_keep_13 cl_11 tg_11 in_X6 (Nat.le_of_ble_eq_true rfl) rfl q1866
  (xv_iload_n dX6_keep_16 rfl
  (xv_zald dX6_keep_17
  (xv_p_X6_flag dX6_keep_18 (lw_S q2034 q2035 q117 q2036)
  (xv_istore_n dX6_keep_21 rfl (Nat.le_of_ble_eq_true rfl)
  (xv_aload_n dX6_keep_22 rfl
  (xv_getR (k := 4) dX6_keep_23 cl_11 tg_11 in_X6 (Nat.le_of_ble_eq_true rfl) rfl q1866
  (xv_iload_n dX6_keep_26 rfl
  (xv_iconst dX6_keep_27 rfl (inRd rfl)
  (xv_zast dX6_keep_28
  (xv_iconst dX6_keep_29 rfl (inRd rfl)
  (xv_istore_n dX6_keep_30 rfl (Nat.le_of_ble_eq_true rfl)
  (fun _ _ _ _ h => h))))))))))))))
  (xv_iconst dX6_keep_10 rfl (inRd rfl)
  (xv_ireturn dX6_keep_11 rfl))))))))) l st S I h
def tr_X6_keep_31 (d : Nat) (Rq : SmQ) (l : SmL) (st : List SmV) (S : SmS) (I : SmI) : Prop :=
  im_iload 3 l st S I fun l st S I =>
  im_ic 238 l st S I fun l st S I =>
  im_cge l st S I (fun l st S I =>
  im_iload 2 l st S I fun l st S I =>
  im_ireturn Rq l st S I) (fun l st S I =>
  im_aload 0 l st S I fun l st S I =>
  im_getR 11 3 l st S I fun l st S I =>
  im_ic 238 l st S I fun l st S I =>
  im_iload 1 l st S I fun l st S I =>
  im_imul l st S I fun l st S I =>
  im_iload 3 l st S I fun l st S I =>
  im_iadd l st S I fun l st S I =>
  im_aload 0 l st S I fun l st S I =>
  im_getR 11 0 l st S I fun l st S I =>
  im_iload 3 l st S I fun l st S I =>
  im_ald 100 l st S I fun l st S I =>
  im_iast l st S I fun l st S I =>
  im_iinc 3 1 l st S I fun l st S I =>
  SW mi_X6_keep 31 d Rq l st S I)
theorem rv_X6_keep_31 {d : Nat} {Rq : SmQ} {l : SmL} {st : List SmV} {S : SmS} {I : SmI} (h : tr_X6_keep_31 d Rq l st S I) : SW mi_X6_keep 31 d Rq l st S I :=
  (show SmW mi_X6_keep 31 d Rq (tr_X6_keep_31 d Rq) from
  (xv_iload_n dX6_keep_31 rfl
  (xv_sipush dX6_keep_32 rfl (inRd rfl)
  (xv_cge dX6_keep_35 rfl
  (xv_iload_n dX6_keep_62 rfl
  (xv_ireturn dX6_keep_63 rfl))
  (xv_aload_n dX6_keep_38 rfl
  (xv_getR (k := 3) dX6_keep_39 cl_11 tg_11 in_X6 (Nat.le_of_ble_eq_true rfl) rfl q1865
  (xv_sipush dX6_keep_42 rfl (inRd rfl)
  (xv_iload_n dX6_keep_45 rfl
  (xv_imul dX6_keep_46
  (xv_iload_n dX6_keep_47 rfl
  (xv_iadd dX6_keep_48
  (xv_aload_n dX6_keep_49 rfl
  (xv_getR (k := 0) dX6_keep_50 cl_11 tg_11 in_X6 (Nat.le_of_ble_eq_true rfl) rfl q1862
  (xv_iload_n dX6_keep_53 rfl
  (xv_iald dX6_keep_54
  (xv_iast dX6_keep_55
  (xv_iinc dX6_keep_56 (Nat.le_of_ble_eq_true rfl)
  (xv_goto dX6_keep_59 rfl (fun _ _ _ _ h => h))))))))))))))))))) l st S I h
def tr_X6_back_0 (d : Nat) (Rq : SmQ) (l : SmL) (st : List SmV) (S : SmS) (I : SmI) : Prop :=
  im_iload 1 l st S I fun l st S I =>
  im_i2l l st S I fun l st S I =>
  im_lc 0 l st S I fun l st S I =>
  im_lc 1 l st S I fun l st S I =>
  im_p_X6_in d l st S I fun l st S I =>
  im_zne l st S I (fun l st S I =>
  im_aload 0 l st S I fun l st S I =>
  im_getR 11 4 l st S I fun l st S I =>
  im_iload 1 l st S I fun l st S I =>
  im_ald 102 l st S I fun l st S I =>
  im_zne l st S I (fun l st S I =>
  im_ic 0 l st S I fun l st S I =>
  im_istore 2 l st S I fun l st S I =>
  SW mi_X6_back 26 d Rq l st S I) (fun l st S I =>
  im_ic (-2) l st S I fun l st S I =>
  im_ireturn Rq l st S I)) (fun l st S I =>
  im_ic (-1) l st S I fun l st S I =>
  im_ireturn Rq l st S I)
theorem rv_X6_back_0 {d : Nat} {Rq : SmQ} {l : SmL} {st : List SmV} {S : SmS} {I : SmI} (h : tr_X6_back_0 d Rq l st S I) : SW mi_X6_back 0 d Rq l st S I :=
  (show SmW mi_X6_back 0 d Rq (tr_X6_back_0 d Rq) from
  (xv_iload_n dX6_back_0 rfl
  (xv_i2l dX6_back_1
  (xv_lconst dX6_back_2 rfl (inR64d rfl)
  (xv_lconst dX6_back_3 rfl (inR64d rfl)
  (xv_p_X6_in dX6_back_4 (lw_S q1940 q1941 q117 q1942)
  (xv_zne dX6_back_7 rfl
  (xv_aload_n dX6_back_12 rfl
  (xv_getR (k := 4) dX6_back_13 cl_11 tg_11 in_X6 (Nat.le_of_ble_eq_true rfl) rfl q1866
  (xv_iload_n dX6_back_16 rfl
  (xv_zald dX6_back_17
  (xv_zne dX6_back_18 rfl
  (xv_iconst dX6_back_24 rfl (inRd rfl)
  (xv_istore_n dX6_back_25 rfl (Nat.le_of_ble_eq_true rfl)
  (fun _ _ _ _ h => h)))
  (xv_bipush dX6_back_21 rfl (inRd rfl)
  (xv_ireturn dX6_back_23 rfl)))))))
  (xv_iconst dX6_back_10 rfl (inRd rfl)
  (xv_ireturn dX6_back_11 rfl))))))))) l st S I h
def tr_X6_back_26 (d : Nat) (Rq : SmQ) (l : SmL) (st : List SmV) (S : SmS) (I : SmI) : Prop :=
  im_iload 2 l st S I fun l st S I =>
  im_ic 238 l st S I fun l st S I =>
  im_cge l st S I (fun l st S I =>
  im_aload 0 l st S I fun l st S I =>
  im_getR 11 0 l st S I fun l st S I =>
  im_ic 1 l st S I fun l st S I =>
  im_ald 100 l st S I fun l st S I =>
  im_ireturn Rq l st S I) (fun l st S I =>
  im_aload 0 l st S I fun l st S I =>
  im_getR 11 0 l st S I fun l st S I =>
  im_iload 2 l st S I fun l st S I =>
  im_aload 0 l st S I fun l st S I =>
  im_getR 11 3 l st S I fun l st S I =>
  im_ic 238 l st S I fun l st S I =>
  im_iload 1 l st S I fun l st S I =>
  im_imul l st S I fun l st S I =>
  im_iload 2 l st S I fun l st S I =>
  im_iadd l st S I fun l st S I =>
  im_ald 100 l st S I fun l st S I =>
  im_iast l st S I fun l st S I =>
  im_iinc 2 1 l st S I fun l st S I =>
  SW mi_X6_back 26 d Rq l st S I)
theorem rv_X6_back_26 {d : Nat} {Rq : SmQ} {l : SmL} {st : List SmV} {S : SmS} {I : SmI} (h : tr_X6_back_26 d Rq l st S I) : SW mi_X6_back 26 d Rq l st S I :=
  (show SmW mi_X6_back 26 d Rq (tr_X6_back_26 d Rq) from
  (xv_iload_n dX6_back_26 rfl
  (xv_sipush dX6_back_27 rfl (inRd rfl)
  (xv_cge dX6_back_30 rfl
  (xv_aload_n dX6_back_57 rfl
  (xv_getR (k := 0) dX6_back_58 cl_11 tg_11 in_X6 (Nat.le_of_ble_eq_true rfl) rfl q1862
  (xv_iconst dX6_back_61 rfl (inRd rfl)
  (xv_iald dX6_back_62
  (xv_ireturn dX6_back_63 rfl)))))
  (xv_aload_n dX6_back_33 rfl
  (xv_getR (k := 0) dX6_back_34 cl_11 tg_11 in_X6 (Nat.le_of_ble_eq_true rfl) rfl q1862
  (xv_iload_n dX6_back_37 rfl
  (xv_aload_n dX6_back_38 rfl
  (xv_getR (k := 3) dX6_back_39 cl_11 tg_11 in_X6 (Nat.le_of_ble_eq_true rfl) rfl q1865
  (xv_sipush dX6_back_42 rfl (inRd rfl)
  (xv_iload_n dX6_back_45 rfl
  (xv_imul dX6_back_46
  (xv_iload_n dX6_back_47 rfl
  (xv_iadd dX6_back_48
  (xv_iald dX6_back_49
  (xv_iast dX6_back_50
  (xv_iinc dX6_back_51 (Nat.le_of_ble_eq_true rfl)
  (xv_goto dX6_back_54 rfl (fun _ _ _ _ h => h))))))))))))))))))) l st S I h
def tr_X6_feed_0 (d : Nat) (Rq : SmQ) (l : SmL) (st : List SmV) (S : SmS) (I : SmI) : Prop :=
  im_iload 1 l st S I fun l st S I =>
  im_i2l l st S I fun l st S I =>
  im_lc 0 l st S I fun l st S I =>
  im_lc 127 l st S I fun l st S I =>
  im_p_X6_in d l st S I fun l st S I =>
  im_zne l st S I (fun l st S I =>
  im_aload 0 l st S I fun l st S I =>
  im_getI 11 6 l st S I fun l st S I =>
  im_ic 160 l st S I fun l st S I =>
  im_cne l st S I (fun l st S I =>
  im_aload 0 l st S I fun l st S I =>
  im_getR 11 5 l st S I fun l st S I =>
  im_aload 0 l st S I fun l st S I =>
  im_getI 11 6 l st S I fun l st S I =>
  im_iload 1 l st S I fun l st S I =>
  im_iast l st S I fun l st S I =>
  im_aload 0 l st S I fun l st S I =>
  im_dup l st S I fun l st S I =>
  im_getI 11 6 l st S I fun l st S I =>
  im_ic 1 l st S I fun l st S I =>
  im_iadd l st S I fun l st S I =>
  im_putI 11 6 l st S I fun l st S I =>
  im_aload 0 l st S I fun l st S I =>
  im_getI 11 6 l st S I fun l st S I =>
  im_ireturn Rq l st S I) (fun l st S I =>
  im_ic (-3) l st S I fun l st S I =>
  im_ireturn Rq l st S I)) (fun l st S I =>
  im_ic (-1) l st S I fun l st S I =>
  im_ireturn Rq l st S I)
theorem rv_X6_feed_0 {d : Nat} {Rq : SmQ} {l : SmL} {st : List SmV} {S : SmS} {I : SmI} (h : tr_X6_feed_0 d Rq l st S I) : SW mi_X6_feed 0 d Rq l st S I :=
  (show SmW mi_X6_feed 0 d Rq (tr_X6_feed_0 d Rq) from
  (xv_iload_n dX6_feed_0 rfl
  (xv_i2l dX6_feed_1
  (xv_lconst dX6_feed_2 rfl (inR64d rfl)
  (xv_ldc2 dX6_feed_3 q1939 rfl (inR64d rfl)
  (xv_p_X6_in dX6_feed_6 (lw_S q1940 q1941 q117 q1942)
  (xv_zne dX6_feed_9 rfl
  (xv_aload_n dX6_feed_14 rfl
  (xv_getI (k := 6) dX6_feed_15 cl_11 tg_11 in_X6 (Nat.le_of_ble_eq_true rfl) rfl q1868
  (xv_sipush dX6_feed_18 rfl (inRd rfl)
  (xv_cne dX6_feed_21 rfl
  (xv_aload_n dX6_feed_27 rfl
  (xv_getR (k := 5) dX6_feed_28 cl_11 tg_11 in_X6 (Nat.le_of_ble_eq_true rfl) rfl q1867
  (xv_aload_n dX6_feed_31 rfl
  (xv_getI (k := 6) dX6_feed_32 cl_11 tg_11 in_X6 (Nat.le_of_ble_eq_true rfl) rfl q1868
  (xv_iload_n dX6_feed_35 rfl
  (xv_iast dX6_feed_36
  (xv_aload_n dX6_feed_37 rfl
  (xv_dup dX6_feed_38
  (xv_getI (k := 6) dX6_feed_39 cl_11 tg_11 in_X6 (Nat.le_of_ble_eq_true rfl) rfl q1868
  (xv_iconst dX6_feed_42 rfl (inRd rfl)
  (xv_iadd dX6_feed_43
  (xv_putI (k := 6) dX6_feed_44 cl_11 tg_11 in_X6 tyX6_ok nmX6 (Nat.le_of_ble_eq_true rfl) rfl ⟨Or.inl q1868, Or.inl rfl⟩
  (xv_aload_n dX6_feed_47 rfl
  (xv_getI (k := 6) dX6_feed_48 cl_11 tg_11 in_X6 (Nat.le_of_ble_eq_true rfl) rfl q1868
  (xv_ireturn dX6_feed_51 rfl)))))))))))))))
  (xv_bipush dX6_feed_24 rfl (inRd rfl)
  (xv_ireturn dX6_feed_26 rfl))))))
  (xv_iconst dX6_feed_12 rfl (inRd rfl)
  (xv_ireturn dX6_feed_13 rfl))))))))) l st S I h
def tr_X6_end_0 (d : Nat) (Rq : SmQ) (l : SmL) (st : List SmV) (S : SmS) (I : SmI) : Prop :=
  im_iload 1 l st S I fun l st S I =>
  im_i2l l st S I fun l st S I =>
  im_lc 0 l st S I fun l st S I =>
  im_aload 0 l st S I fun l st S I =>
  im_getI 11 6 l st S I fun l st S I =>
  im_i2l l st S I fun l st S I =>
  im_p_X6_in d l st S I fun l st S I =>
  im_zne l st S I (fun l st S I =>
  im_aload 0 l st S I fun l st S I =>
  im_getI 11 6 l st S I fun l st S I =>
  im_istore 2 l st S I fun l st S I =>
  im_aload 0 l st S I fun l st S I =>
  im_iload 1 l st S I fun l st S I =>
  im_putI 11 6 l st S I fun l st S I =>
  im_iload 2 l st S I fun l st S I =>
  im_ireturn Rq l st S I) (fun l st S I =>
  im_ic (-1) l st S I fun l st S I =>
  im_ireturn Rq l st S I)
theorem rv_X6_end_0 {d : Nat} {Rq : SmQ} {l : SmL} {st : List SmV} {S : SmS} {I : SmI} (h : tr_X6_end_0 d Rq l st S I) : SW mi_X6_end 0 d Rq l st S I :=
  (show SmW mi_X6_end 0 d Rq (tr_X6_end_0 d Rq) from
  (xv_iload_n dX6_end_0 rfl
  (xv_i2l dX6_end_1
  (xv_lconst dX6_end_2 rfl (inR64d rfl)
  (xv_aload_n dX6_end_3 rfl
  (xv_getI (k := 6) dX6_end_4 cl_11 tg_11 in_X6 (Nat.le_of_ble_eq_true rfl) rfl q1868
  (xv_i2l dX6_end_7
  (xv_p_X6_in dX6_end_8 (lw_S q1940 q1941 q117 q1942)
  (xv_zne dX6_end_11 rfl
  (xv_aload_n dX6_end_16 rfl
  (xv_getI (k := 6) dX6_end_17 cl_11 tg_11 in_X6 (Nat.le_of_ble_eq_true rfl) rfl q1868
  (xv_istore_n dX6_end_20 rfl (Nat.le_of_ble_eq_true rfl)
  (xv_aload_n dX6_end_21 rfl
  (xv_iload_n dX6_end_22 rfl
  (xv_putI (k := 6) dX6_end_23 cl_11 tg_11 in_X6 tyX6_ok nmX6 (Nat.le_of_ble_eq_true rfl) rfl ⟨Or.inl q1868, Or.inl rfl⟩
  (xv_iload_n dX6_end_26 rfl
  (xv_ireturn dX6_end_27 rfl))))))))
  (xv_iconst dX6_end_14 rfl (inRd rfl)
  (xv_ireturn dX6_end_15 rfl))))))))))) l st S I h
def tr_X6_reads_0 (d : Nat) (Rq : SmQ) (l : SmL) (st : List SmV) (S : SmS) (I : SmI) : Prop :=
  im_aload 0 l st S I fun l st S I =>
  im_getI 11 11 l st S I fun l st S I =>
  im_zle l st S I (fun l st S I =>
  SW mi_X6_reads 8 d Rq l st S I) (fun l st S I =>
  im_return Rq l st S I)
theorem rv_X6_reads_0 {d : Nat} {Rq : SmQ} {l : SmL} {st : List SmV} {S : SmS} {I : SmI} (h : tr_X6_reads_0 d Rq l st S I) : SW mi_X6_reads 0 d Rq l st S I :=
  (show SmW mi_X6_reads 0 d Rq (tr_X6_reads_0 d Rq) from
  (xv_aload_n dX6_reads_0 rfl
  (xv_getI (k := 11) dX6_reads_1 cl_11 tg_11 in_X6 (Nat.le_of_ble_eq_true rfl) rfl q1873
  (xv_zle dX6_reads_4 rfl
  (fun _ _ _ _ h => h)
  (xv_return dX6_reads_7 rfl))))) l st S I h
def tr_X6_reads_8 (d : Nat) (Rq : SmQ) (l : SmL) (st : List SmV) (S : SmS) (I : SmI) : Prop :=
  im_aload 0 l st S I fun l st S I =>
  im_aload 0 l st S I fun l st S I =>
  im_getI 11 7 l st S I fun l st S I =>
  im_p_X6_byteAt d l st S I fun l st S I =>
  im_ic 32 l st S I fun l st S I =>
  im_cne l st S I (fun l st S I =>
  im_aload 0 l st S I fun l st S I =>
  im_aload 0 l st S I fun l st S I =>
  im_getI 11 7 l st S I fun l st S I =>
  im_putI 11 8 l st S I fun l st S I =>
  im_aload 0 l st S I fun l st S I =>
  im_aload 0 l st S I fun l st S I =>
  im_getI 11 7 l st S I fun l st S I =>
  im_p_X6_byteAt d l st S I fun l st S I =>
  im_istore 1 l st S I fun l st S I =>
  im_iload 1 l st S I fun l st S I =>
  im_zge l st S I (fun l st S I =>
  im_iload 1 l st S I fun l st S I =>
  im_i2l l st S I fun l st S I =>
  im_lc 97 l st S I fun l st S I =>
  im_lc 122 l st S I fun l st S I =>
  im_p_X6_in d l st S I fun l st S I =>
  im_zeq l st S I (fun l st S I =>
  im_iload 1 l st S I fun l st S I =>
  im_i2l l st S I fun l st S I =>
  im_lc 48 l st S I fun l st S I =>
  im_lc 57 l st S I fun l st S I =>
  im_p_X6_in d l st S I fun l st S I =>
  im_zeq l st S I (fun l st S I =>
  im_aload 0 l st S I fun l st S I =>
  im_ic 3 l st S I fun l st S I =>
  im_putI 11 9 l st S I fun l st S I =>
  im_aload 0 l st S I fun l st S I =>
  im_iload 1 l st S I fun l st S I =>
  im_ic 59 l st S I fun l st S I =>
  im_cne l st S I (fun l st S I =>
  im_ic 0 l st S I fun l st S I =>
  im_ic 1 l st S I fun l st S I =>
  im_callV 2 11 mi_X6_requires d (retK mi_X6_reads 261 264 d Rq l) st S I) (fun l st S I =>
  im_ic 1 l st S I fun l st S I =>
  im_ic 1 l st S I fun l st S I =>
  im_callV 2 11 mi_X6_requires d (retK mi_X6_reads 261 264 d Rq l) st S I)) (fun l st S I =>
  im_aload 0 l st S I fun l st S I =>
  im_ic 2 l st S I fun l st S I =>
  im_putI 11 9 l st S I fun l st S I =>
  im_aload 0 l st S I fun l st S I =>
  im_ic 0 l st S I fun l st S I =>
  im_putI 11 10 l st S I fun l st S I =>
  SW mi_X6_reads 140 d Rq l st S I)) (fun l st S I =>
  im_aload 0 l st S I fun l st S I =>
  im_ic 1 l st S I fun l st S I =>
  im_putI 11 9 l st S I fun l st S I =>
  SW mi_X6_reads 82 d Rq l st S I)) (fun l st S I =>
  im_aload 0 l st S I fun l st S I =>
  im_ic 0 l st S I fun l st S I =>
  im_putI 11 9 l st S I fun l st S I =>
  im_return Rq l st S I)) (fun l st S I =>
  im_aload 0 l st S I fun l st S I =>
  im_dup l st S I fun l st S I =>
  im_getI 11 7 l st S I fun l st S I =>
  im_ic 1 l st S I fun l st S I =>
  im_iadd l st S I fun l st S I =>
  im_putI 11 7 l st S I fun l st S I =>
  SW mi_X6_reads 8 d Rq l st S I)
theorem rv_X6_reads_8 {d : Nat} {Rq : SmQ} {l : SmL} {st : List SmV} {S : SmS} {I : SmI} (h : tr_X6_reads_8 d Rq l st S I) : SW mi_X6_reads 8 d Rq l st S I :=
  (show SmW mi_X6_reads 8 d Rq (tr_X6_reads_8 d Rq) from
  (xv_aload_n dX6_reads_8 rfl
  (xv_aload_n dX6_reads_9 rfl
  (xv_getI (k := 7) dX6_reads_10 cl_11 tg_11 in_X6 (Nat.le_of_ble_eq_true rfl) rfl q1869
  (xv_p_X6_byteAt dX6_reads_13 (lw_V q1955 q1957 qs48 q117 q1958)
  (xv_bipush dX6_reads_16 rfl (inRd rfl)
  (xv_cne dX6_reads_18 rfl
  (xv_aload_n dX6_reads_34 rfl
  (xv_aload_n dX6_reads_35 rfl
  (xv_getI (k := 7) dX6_reads_36 cl_11 tg_11 in_X6 (Nat.le_of_ble_eq_true rfl) rfl q1869
  (xv_putI (k := 8) dX6_reads_39 cl_11 tg_11 in_X6 tyX6_ok nmX6 (Nat.le_of_ble_eq_true rfl) rfl ⟨Or.inl q1870, Or.inl rfl⟩
  (xv_aload_n dX6_reads_42 rfl
  (xv_aload_n dX6_reads_43 rfl
  (xv_getI (k := 7) dX6_reads_44 cl_11 tg_11 in_X6 (Nat.le_of_ble_eq_true rfl) rfl q1869
  (xv_p_X6_byteAt dX6_reads_47 (lw_V q1955 q1957 qs48 q117 q1958)
  (xv_istore_n dX6_reads_50 rfl (Nat.le_of_ble_eq_true rfl)
  (xv_iload_n dX6_reads_51 rfl
  (xv_zge dX6_reads_52 rfl
  (xv_iload_n dX6_reads_63 rfl
  (xv_i2l dX6_reads_64
  (xv_ldc2 dX6_reads_65 q1959 rfl (inR64d rfl)
  (xv_ldc2 dX6_reads_68 q1960 rfl (inR64d rfl)
  (xv_p_X6_in dX6_reads_71 (lw_S q1940 q1941 q117 q1942)
  (xv_zeq dX6_reads_74 rfl
  (xv_iload_n dX6_reads_116 rfl
  (xv_i2l dX6_reads_117
  (xv_ldc2 dX6_reads_118 q1961 rfl (inR64d rfl)
  (xv_ldc2 dX6_reads_121 q1962 rfl (inR64d rfl)
  (xv_p_X6_in dX6_reads_124 (lw_S q1940 q1941 q117 q1942)
  (xv_zeq dX6_reads_127 rfl
  (xv_aload_n dX6_reads_243 rfl
  (xv_iconst dX6_reads_244 rfl (inRd rfl)
  (xv_putI (k := 9) dX6_reads_245 cl_11 tg_11 in_X6 tyX6_ok nmX6 (Nat.le_of_ble_eq_true rfl) rfl ⟨Or.inl q1871, Or.inl rfl⟩
  (xv_aload_n dX6_reads_248 rfl
  (xv_iload_n dX6_reads_249 rfl
  (xv_bipush dX6_reads_250 rfl (inRd rfl)
  (xv_cne dX6_reads_252 rfl
  (xv_iconst dX6_reads_259 rfl (inRd rfl)
  (xv_iconst dX6_reads_260 rfl (inRd rfl)
  (xv_callV dX6_reads_261 cl_11 tg_11 ok_X6_requires rfl (lw_V q1963 q1965 qs49 q117 q1966))))
  (xv_iconst dX6_reads_255 rfl (inRd rfl)
  (xv_goto dX6_reads_256 rfl (xv_iconst dX6_reads_260 rfl (inRd rfl)
  (xv_callV dX6_reads_261 cl_11 tg_11 ok_X6_requires rfl (lw_V q1963 q1965 qs49 q117 q1966))))))))))))
  (xv_aload_n dX6_reads_130 rfl
  (xv_iconst dX6_reads_131 rfl (inRd rfl)
  (xv_putI (k := 9) dX6_reads_132 cl_11 tg_11 in_X6 tyX6_ok nmX6 (Nat.le_of_ble_eq_true rfl) rfl ⟨Or.inl q1871, Or.inl rfl⟩
  (xv_aload_n dX6_reads_135 rfl
  (xv_iconst dX6_reads_136 rfl (inRd rfl)
  (xv_putI (k := 10) dX6_reads_137 cl_11 tg_11 in_X6 tyX6_ok nmX6 (Nat.le_of_ble_eq_true rfl) rfl ⟨Or.inl q1872, Or.inl rfl⟩
  (fun _ _ _ _ h => h)))))))))))))
  (xv_aload_n dX6_reads_77 rfl
  (xv_iconst dX6_reads_78 rfl (inRd rfl)
  (xv_putI (k := 9) dX6_reads_79 cl_11 tg_11 in_X6 tyX6_ok nmX6 (Nat.le_of_ble_eq_true rfl) rfl ⟨Or.inl q1871, Or.inl rfl⟩
  (fun _ _ _ _ h => h))))))))))
  (xv_aload_n dX6_reads_55 rfl
  (xv_iconst dX6_reads_56 rfl (inRd rfl)
  (xv_putI (k := 9) dX6_reads_57 cl_11 tg_11 in_X6 tyX6_ok nmX6 (Nat.le_of_ble_eq_true rfl) rfl ⟨Or.inl q1871, Or.inl rfl⟩
  (xv_goto dX6_reads_60 rfl (xv_return dX6_reads_274 rfl))))))))))))))))
  (xv_aload_n dX6_reads_21 rfl
  (xv_dup dX6_reads_22
  (xv_getI (k := 7) dX6_reads_23 cl_11 tg_11 in_X6 (Nat.le_of_ble_eq_true rfl) rfl q1869
  (xv_iconst dX6_reads_26 rfl (inRd rfl)
  (xv_iadd dX6_reads_27
  (xv_putI (k := 7) dX6_reads_28 cl_11 tg_11 in_X6 tyX6_ok nmX6 (Nat.le_of_ble_eq_true rfl) rfl ⟨Or.inl q1869, Or.inl rfl⟩
  (xv_goto dX6_reads_31 rfl (fun _ _ _ _ h => h))))))))))))))) l st S I h
def tr_X6_reads_82 (d : Nat) (Rq : SmQ) (l : SmL) (st : List SmV) (S : SmS) (I : SmI) : Prop :=
  im_aload 0 l st S I fun l st S I =>
  im_aload 0 l st S I fun l st S I =>
  im_getI 11 7 l st S I fun l st S I =>
  im_p_X6_byteAt d l st S I fun l st S I =>
  im_i2l l st S I fun l st S I =>
  im_lc 97 l st S I fun l st S I =>
  im_lc 122 l st S I fun l st S I =>
  im_p_X6_in d l st S I fun l st S I =>
  im_zeq l st S I (fun l st S I =>
  im_return Rq l st S I) (fun l st S I =>
  im_aload 0 l st S I fun l st S I =>
  im_dup l st S I fun l st S I =>
  im_getI 11 7 l st S I fun l st S I =>
  im_ic 1 l st S I fun l st S I =>
  im_iadd l st S I fun l st S I =>
  im_putI 11 7 l st S I fun l st S I =>
  SW mi_X6_reads 82 d Rq l st S I)
theorem rv_X6_reads_82 {d : Nat} {Rq : SmQ} {l : SmL} {st : List SmV} {S : SmS} {I : SmI} (h : tr_X6_reads_82 d Rq l st S I) : SW mi_X6_reads 82 d Rq l st S I :=
  (show SmW mi_X6_reads 82 d Rq (tr_X6_reads_82 d Rq) from
  (xv_aload_n dX6_reads_82 rfl
  (xv_aload_n dX6_reads_83 rfl
  (xv_getI (k := 7) dX6_reads_84 cl_11 tg_11 in_X6 (Nat.le_of_ble_eq_true rfl) rfl q1869
  (xv_p_X6_byteAt dX6_reads_87 (lw_V q1955 q1957 qs48 q117 q1958)
  (xv_i2l dX6_reads_90
  (xv_ldc2 dX6_reads_91 q1959 rfl (inR64d rfl)
  (xv_ldc2 dX6_reads_94 q1960 rfl (inR64d rfl)
  (xv_p_X6_in dX6_reads_97 (lw_S q1940 q1941 q117 q1942)
  (xv_zeq dX6_reads_100 rfl
  (xv_return dX6_reads_274 rfl)
  (xv_aload_n dX6_reads_103 rfl
  (xv_dup dX6_reads_104
  (xv_getI (k := 7) dX6_reads_105 cl_11 tg_11 in_X6 (Nat.le_of_ble_eq_true rfl) rfl q1869
  (xv_iconst dX6_reads_108 rfl (inRd rfl)
  (xv_iadd dX6_reads_109
  (xv_putI (k := 7) dX6_reads_110 cl_11 tg_11 in_X6 tyX6_ok nmX6 (Nat.le_of_ble_eq_true rfl) rfl ⟨Or.inl q1869, Or.inl rfl⟩
  (xv_goto dX6_reads_113 rfl (fun _ _ _ _ h => h)))))))))))))))))) l st S I h
def tr_X6_reads_140 (d : Nat) (Rq : SmQ) (l : SmL) (st : List SmV) (S : SmS) (I : SmI) : Prop :=
  im_aload 0 l st S I fun l st S I =>
  im_aload 0 l st S I fun l st S I =>
  im_getI 11 7 l st S I fun l st S I =>
  im_p_X6_byteAt d l st S I fun l st S I =>
  im_i2l l st S I fun l st S I =>
  im_lc 48 l st S I fun l st S I =>
  im_lc 57 l st S I fun l st S I =>
  im_p_X6_in d l st S I fun l st S I =>
  im_zeq l st S I (fun l st S I =>
  im_aload 0 l st S I fun l st S I =>
  im_aload 0 l st S I fun l st S I =>
  im_getI 11 7 l st S I fun l st S I =>
  im_aload 0 l st S I fun l st S I =>
  im_getI 11 8 l st S I fun l st S I =>
  im_isub l st S I fun l st S I =>
  im_ic 2 l st S I fun l st S I =>
  im_cgt l st S I (fun l st S I =>
  im_ic 0 l st S I fun l st S I =>
  im_ic 1 l st S I fun l st S I =>
  im_callV 2 11 mi_X6_requires d (retK mi_X6_reads 237 240 d Rq l) st S I) (fun l st S I =>
  im_ic 1 l st S I fun l st S I =>
  im_ic 1 l st S I fun l st S I =>
  im_callV 2 11 mi_X6_requires d (retK mi_X6_reads 237 240 d Rq l) st S I)) (fun l st S I =>
  im_aload 0 l st S I fun l st S I =>
  im_aload 0 l st S I fun l st S I =>
  im_getI 11 7 l st S I fun l st S I =>
  im_aload 0 l st S I fun l st S I =>
  im_getI 11 8 l st S I fun l st S I =>
  im_isub l st S I fun l st S I =>
  im_ic 2 l st S I fun l st S I =>
  im_cge l st S I (fun l st S I =>
  im_aload 0 l st S I fun l st S I =>
  im_getI 11 10 l st S I fun l st S I =>
  SW mi_X6_reads 201 d Rq l st S I) (fun l st S I =>
  im_ic 10 l st S I fun l st S I =>
  im_aload 0 l st S I fun l st S I =>
  im_getI 11 10 l st S I fun l st S I =>
  im_imul l st S I fun l st S I =>
  im_aload 0 l st S I fun l st S I =>
  im_aload 0 l st S I fun l st S I =>
  im_getI 11 7 l st S I fun l st S I =>
  im_p_X6_byteAt d l st S I fun l st S I =>
  im_iadd l st S I fun l st S I =>
  im_ic 48 l st S I fun l st S I =>
  im_isub l st S I fun l st S I =>
  SW mi_X6_reads 201 d Rq l st S I))
theorem rv_X6_reads_140 {d : Nat} {Rq : SmQ} {l : SmL} {st : List SmV} {S : SmS} {I : SmI} (h : tr_X6_reads_140 d Rq l st S I) : SW mi_X6_reads 140 d Rq l st S I :=
  (show SmW mi_X6_reads 140 d Rq (tr_X6_reads_140 d Rq) from
  (xv_aload_n dX6_reads_140 rfl
  (xv_aload_n dX6_reads_141 rfl
  (xv_getI (k := 7) dX6_reads_142 cl_11 tg_11 in_X6 (Nat.le_of_ble_eq_true rfl) rfl q1869
  (xv_p_X6_byteAt dX6_reads_145 (lw_V q1955 q1957 qs48 q117 q1958)
  (xv_i2l dX6_reads_148
  (xv_ldc2 dX6_reads_149 q1961 rfl (inR64d rfl)
  (xv_ldc2 dX6_reads_152 q1962 rfl (inR64d rfl)
  (xv_p_X6_in dX6_reads_155 (lw_S q1940 q1941 q117 q1942)
  (xv_zeq dX6_reads_158 rfl
  (xv_aload_n dX6_reads_217 rfl
  (xv_aload_n dX6_reads_218 rfl
  (xv_getI (k := 7) dX6_reads_219 cl_11 tg_11 in_X6 (Nat.le_of_ble_eq_true rfl) rfl q1869
  (xv_aload_n dX6_reads_222 rfl
  (xv_getI (k := 8) dX6_reads_223 cl_11 tg_11 in_X6 (Nat.le_of_ble_eq_true rfl) rfl q1870
  (xv_isub dX6_reads_226
  (xv_iconst dX6_reads_227 rfl (inRd rfl)
  (xv_cgt dX6_reads_228 rfl
  (xv_iconst dX6_reads_235 rfl (inRd rfl)
  (xv_iconst dX6_reads_236 rfl (inRd rfl)
  (xv_callV dX6_reads_237 cl_11 tg_11 ok_X6_requires rfl (lw_V q1963 q1965 qs49 q117 q1966))))
  (xv_iconst dX6_reads_231 rfl (inRd rfl)
  (xv_goto dX6_reads_232 rfl (xv_iconst dX6_reads_236 rfl (inRd rfl)
  (xv_callV dX6_reads_237 cl_11 tg_11 ok_X6_requires rfl (lw_V q1963 q1965 qs49 q117 q1966)))))))))))))
  (xv_aload_n dX6_reads_161 rfl
  (xv_aload_n dX6_reads_162 rfl
  (xv_getI (k := 7) dX6_reads_163 cl_11 tg_11 in_X6 (Nat.le_of_ble_eq_true rfl) rfl q1869
  (xv_aload_n dX6_reads_166 rfl
  (xv_getI (k := 8) dX6_reads_167 cl_11 tg_11 in_X6 (Nat.le_of_ble_eq_true rfl) rfl q1870
  (xv_isub dX6_reads_170
  (xv_iconst dX6_reads_171 rfl (inRd rfl)
  (xv_cge dX6_reads_172 rfl
  (xv_aload_n dX6_reads_197 rfl
  (xv_getI (k := 10) dX6_reads_198 cl_11 tg_11 in_X6 (Nat.le_of_ble_eq_true rfl) rfl q1872
  (fun _ _ _ _ h => h)))
  (xv_bipush dX6_reads_175 rfl (inRd rfl)
  (xv_aload_n dX6_reads_177 rfl
  (xv_getI (k := 10) dX6_reads_178 cl_11 tg_11 in_X6 (Nat.le_of_ble_eq_true rfl) rfl q1872
  (xv_imul dX6_reads_181
  (xv_aload_n dX6_reads_182 rfl
  (xv_aload_n dX6_reads_183 rfl
  (xv_getI (k := 7) dX6_reads_184 cl_11 tg_11 in_X6 (Nat.le_of_ble_eq_true rfl) rfl q1869
  (xv_p_X6_byteAt dX6_reads_187 (lw_V q1955 q1957 qs48 q117 q1958)
  (xv_iadd dX6_reads_190
  (xv_bipush dX6_reads_191 rfl (inRd rfl)
  (xv_isub dX6_reads_193
  (xv_goto dX6_reads_194 rfl (fun _ _ _ _ h => h))))))))))))))))))))))))))))))) l st S I h
def tr_X6_reads_201 (d : Nat) (Rq : SmQ) (l : SmL) (st : List SmV) (S : SmS) (I : SmI) : Prop :=
  im_putI 11 10 l st S I fun l st S I =>
  im_aload 0 l st S I fun l st S I =>
  im_dup l st S I fun l st S I =>
  im_getI 11 7 l st S I fun l st S I =>
  im_ic 1 l st S I fun l st S I =>
  im_iadd l st S I fun l st S I =>
  im_putI 11 7 l st S I fun l st S I =>
  SW mi_X6_reads 140 d Rq l st S I
theorem rv_X6_reads_201 {d : Nat} {Rq : SmQ} {l : SmL} {st : List SmV} {S : SmS} {I : SmI} (h : tr_X6_reads_201 d Rq l st S I) : SW mi_X6_reads 201 d Rq l st S I :=
  (show SmW mi_X6_reads 201 d Rq (tr_X6_reads_201 d Rq) from
  (xv_putI (k := 10) dX6_reads_201 cl_11 tg_11 in_X6 tyX6_ok nmX6 (Nat.le_of_ble_eq_true rfl) rfl ⟨Or.inl q1872, Or.inl rfl⟩
  (xv_aload_n dX6_reads_204 rfl
  (xv_dup dX6_reads_205
  (xv_getI (k := 7) dX6_reads_206 cl_11 tg_11 in_X6 (Nat.le_of_ble_eq_true rfl) rfl q1869
  (xv_iconst dX6_reads_209 rfl (inRd rfl)
  (xv_iadd dX6_reads_210
  (xv_putI (k := 7) dX6_reads_211 cl_11 tg_11 in_X6 tyX6_ok nmX6 (Nat.le_of_ble_eq_true rfl) rfl ⟨Or.inl q1869, Or.inl rfl⟩
  (xv_goto dX6_reads_214 rfl (fun _ _ _ _ h => h)))))))))) l st S I h
def tr_X6_reads_240 (d : Nat) (Rq : SmQ) (l : SmL) (st : List SmV) (S : SmS) (I : SmI) : Prop :=
  im_return Rq l st S I
theorem rv_X6_reads_240 {d : Nat} {Rq : SmQ} {l : SmL} {st : List SmV} {S : SmS} {I : SmI} (h : tr_X6_reads_240 d Rq l st S I) : SW mi_X6_reads 240 d Rq l st S I :=
  (show SmW mi_X6_reads 240 d Rq (tr_X6_reads_240 d Rq) from
  (xv_goto dX6_reads_240 rfl (xv_return dX6_reads_274 rfl))) l st S I h
def tr_X6_reads_264 (d : Nat) (Rq : SmQ) (l : SmL) (st : List SmV) (S : SmS) (I : SmI) : Prop :=
  im_aload 0 l st S I fun l st S I =>
  im_dup l st S I fun l st S I =>
  im_getI 11 7 l st S I fun l st S I =>
  im_ic 1 l st S I fun l st S I =>
  im_iadd l st S I fun l st S I =>
  im_putI 11 7 l st S I fun l st S I =>
  im_return Rq l st S I
theorem rv_X6_reads_264 {d : Nat} {Rq : SmQ} {l : SmL} {st : List SmV} {S : SmS} {I : SmI} (h : tr_X6_reads_264 d Rq l st S I) : SW mi_X6_reads 264 d Rq l st S I :=
  (show SmW mi_X6_reads 264 d Rq (tr_X6_reads_264 d Rq) from
  (xv_aload_n dX6_reads_264 rfl
  (xv_dup dX6_reads_265
  (xv_getI (k := 7) dX6_reads_266 cl_11 tg_11 in_X6 (Nat.le_of_ble_eq_true rfl) rfl q1869
  (xv_iconst dX6_reads_269 rfl (inRd rfl)
  (xv_iadd dX6_reads_270
  (xv_putI (k := 7) dX6_reads_271 cl_11 tg_11 in_X6 tyX6_ok nmX6 (Nat.le_of_ble_eq_true rfl) rfl ⟨Or.inl q1869, Or.inl rfl⟩
  (xv_return dX6_reads_274 rfl)))))))) l st S I h
