/-! regions of methods, printed by gen/regions.py -/
set_option maxRecDepth 100000
/- X0_lambda_rule_0: cut at [0] -/
abbrev mi_X0_lambda_rule_0 : SmM := (yX0_lambda_rule_0, cX0_lambda_rule_0, 3, (some FieldType.boolean : Option FieldType), [])
theorem ok_X0_lambda_rule_0 : callOk mi_X0_lambda_rule_0 2 := ⟨rfl, rfl, Nat.le_of_ble_eq_true rfl, by decide, by decide, by decide +kernel⟩
theorem ent_X0_lambda_rule_0 (x : Option Nat) (x0 : Int) (x1 : Int) : entL (mL mi_X0_lambda_rule_0) [vR x, vI x0, vI x1] = [some (vR x), some (vI x0), some (vI x1)] := rfl
/- X0_lambda_rule_1: cut at [0] -/
abbrev mi_X0_lambda_rule_1 : SmM := (yX0_lambda_rule_1, cX0_lambda_rule_1, 3, (some FieldType.boolean : Option FieldType), [])
theorem ok_X0_lambda_rule_1 : callOk mi_X0_lambda_rule_1 2 := ⟨rfl, rfl, Nat.le_of_ble_eq_true rfl, by decide, by decide, by decide +kernel⟩
theorem ent_X0_lambda_rule_1 (x : Option Nat) (x0 : Int) (x1 : Int) : entL (mL mi_X0_lambda_rule_1) [vR x, vI x0, vI x1] = [some (vR x), some (vI x0), some (vI x1)] := rfl
/- X0_lambda_rule_2: cut at [0, 12] -/
abbrev mi_X0_lambda_rule_2 : SmM := (yX0_lambda_rule_2, cX0_lambda_rule_2, 3, (some FieldType.boolean : Option FieldType), [])
theorem ok_X0_lambda_rule_2 : callOk mi_X0_lambda_rule_2 2 := ⟨rfl, rfl, Nat.le_of_ble_eq_true rfl, by decide, by decide, by decide +kernel⟩
theorem ent_X0_lambda_rule_2 (x : Option Nat) (x0 : Int) (x1 : Int) : entL (mL mi_X0_lambda_rule_2) [vR x, vI x0, vI x1] = [some (vR x), some (vI x0), some (vI x1)] := rfl
/- X0_lambda_place_3: cut at [0] -/
abbrev mi_X0_lambda_place_3 : SmM := (yX0_lambda_place_3, cX0_lambda_place_3, 4, (some FieldType.boolean : Option FieldType), [])
theorem ok_X0_lambda_place_3 : callOk mi_X0_lambda_place_3 3 := ⟨rfl, rfl, Nat.le_of_ble_eq_true rfl, by decide, by decide, by decide +kernel⟩
theorem ent_X0_lambda_place_3 (x : Option Nat) (x0 : Int) (x1 : Int) (x2 : Int) : entL (mL mi_X0_lambda_place_3) [vR x, vI x0, vI x1, vI x2] = [some (vR x), some (vI x0), some (vI x1), some (vI x2)] := rfl
/- X0_lambda_beforeBy_4: cut at [0] -/
abbrev mi_X0_lambda_beforeBy_4 : SmM := (yX0_lambda_beforeBy_4, cX0_lambda_beforeBy_4, 3, (some FieldType.boolean : Option FieldType), [])
theorem ok_X0_lambda_beforeBy_4 : callOk mi_X0_lambda_beforeBy_4 3 := ⟨rfl, rfl, Nat.le_of_ble_eq_true rfl, by decide, by decide, by decide +kernel⟩
theorem ent_X0_lambda_beforeBy_4 (x0 : Option Nat) (x1 : Int) (x2 : Int) : entL (mL mi_X0_lambda_beforeBy_4) [vR x0, vI x1, vI x2] = [some (vR x0), some (vI x1), some (vI x2)] := rfl
/- X0_lambda_beforeBy_5: cut at [0] -/
abbrev mi_X0_lambda_beforeBy_5 : SmM := (yX0_lambda_beforeBy_5, cX0_lambda_beforeBy_5, 3, (some FieldType.boolean : Option FieldType), [])
theorem ok_X0_lambda_beforeBy_5 : callOk mi_X0_lambda_beforeBy_5 3 := ⟨rfl, rfl, Nat.le_of_ble_eq_true rfl, by decide, by decide, by decide +kernel⟩
theorem ent_X0_lambda_beforeBy_5 (x0 : Option Nat) (x1 : Int) (x2 : Int) : entL (mL mi_X0_lambda_beforeBy_5) [vR x0, vI x1, vI x2] = [some (vR x0), some (vI x1), some (vI x2)] := rfl
/- X0_rule: cut at [0, 86, 97, 105, 111, 125, 136] -/
abbrev mi_X0_rule : SmM := (yX0_rule, cX0_rule, 2, (some FieldType.int : Option FieldType), [])
theorem ok_X0_rule : callOk mi_X0_rule 1 := ⟨rfl, rfl, Nat.le_of_ble_eq_true rfl, by decide, by decide, by decide +kernel⟩
theorem ent_X0_rule (x : Option Nat) (x0 : Int) : entL (mL mi_X0_rule) [vR x, vI x0] = [some (vR x), some (vI x0)] := rfl
/- J2_size: cut at [0, 9] -/
abbrev mi_J2_size : SmM := (yJ2_size, cJ2_size, 1, (some FieldType.int : Option FieldType), [])
theorem ok_J2_size : callOk mi_J2_size 0 := ⟨rfl, rfl, Nat.le_of_ble_eq_true rfl, by decide, by decide, by decide +kernel⟩
theorem ent_J2_size (x : Option Nat) : entL (mL mi_J2_size) [vR x] = [some (vR x)] := rfl
/- X0_place: cut at [0, 58, 101] -/
abbrev mi_X0_place : SmM := (yX0_place, cX0_place, 3, (some FieldType.int : Option FieldType), [])
theorem ok_X0_place : callOk mi_X0_place 2 := ⟨rfl, rfl, Nat.le_of_ble_eq_true rfl, by decide, by decide, by decide +kernel⟩
theorem ent_X0_place (x : Option Nat) (x0 : Int) (x1 : Int) : entL (mL mi_X0_place) [vR x, vI x0, vI x1] = [some (vR x), some (vI x0), some (vI x1)] := rfl
/- X0_beforeBy: cut at [0] -/
abbrev mi_X0_beforeBy : SmM := (yX0_beforeBy, cX0_beforeBy, 3, (some (FieldType.object "LineDispatch$Before") : Option FieldType), [])
theorem ok_X0_beforeBy : callOk mi_X0_beforeBy 2 := ⟨rfl, rfl, Nat.le_of_ble_eq_true rfl, by decide, by decide, by decide +kernel⟩
theorem ent_X0_beforeBy (x : Option Nat) (x0 : Option Nat) (x1 : Int) : entL (mL mi_X0_beforeBy) [vR x, vR x0, vI x1] = [some (vR x), some (vR x0), some (vI x1)] := rfl
/- X0_chosen: cut at [0, 6, 22, 40] -/
abbrev mi_X0_chosen : SmM := (yX0_chosen, cX0_chosen, 5, (some FieldType.int : Option FieldType), [])
theorem ok_X0_chosen : callOk mi_X0_chosen 3 := ⟨rfl, rfl, Nat.le_of_ble_eq_true rfl, by decide, by decide, by decide +kernel⟩
theorem ent_X0_chosen (x0 : Option Nat) (x1 : Option Nat) (x2 : Option Nat) : entL (mL mi_X0_chosen) [vR x0, vR x1, vR x2] = [some (vR x0), some (vR x1), some (vR x2), none, none] := rfl
/- X0_arrives: cut at [0, 2, 50, 53, 67, 68, 75, 89] -/
abbrev mi_X0_arrives : SmM := (yX0_arrives, cX0_arrives, 3, (some FieldType.int : Option FieldType), [])
theorem ok_X0_arrives : callOk mi_X0_arrives 1 := ⟨rfl, rfl, Nat.le_of_ble_eq_true rfl, by decide, by decide, by decide +kernel⟩
theorem ent_X0_arrives (x : Option Nat) (x0 : Option Nat) : entL (mL mi_X0_arrives) [vR x, vR x0] = [some (vR x), some (vR x0), none] := rfl
/- X0_dreams: cut at [0, 11, 20, 24, 41, 43, 59, 71, 82, 150, 163] -/
abbrev mi_X0_dreams : SmM := (yX0_dreams, cX0_dreams, 8, (some FieldType.int : Option FieldType), [])
theorem ok_X0_dreams : callOk mi_X0_dreams 2 := ⟨rfl, rfl, Nat.le_of_ble_eq_true rfl, by decide, by decide, by decide +kernel⟩
theorem ent_X0_dreams (x : Option Nat) (x0 : Int) (x1 : Int) : entL (mL mi_X0_dreams) [vR x, vI x0, vI x1] = [some (vR x), some (vI x0), some (vI x1), none, none, none, none, none] := rfl
/- X0_plan: cut at [0, 28] -/
abbrev mi_X0_plan : SmM := (yX0_plan, cX0_plan, 3, (some FieldType.int : Option FieldType), [])
theorem ok_X0_plan : callOk mi_X0_plan 2 := ⟨rfl, rfl, Nat.le_of_ble_eq_true rfl, by decide, by decide, by decide +kernel⟩
theorem ent_X0_plan (x : Option Nat) (x0 : Int) (x1 : Int) : entL (mL mi_X0_plan) [vR x, vI x0, vI x1] = [some (vR x), some (vI x0), some (vI x1)] := rfl
/- X0_best: cut at [0, 7, 28, 47] -/
abbrev mi_X0_best : SmM := (yX0_best, cX0_best, 5, (some FieldType.int : Option FieldType), [])
theorem ok_X0_best : callOk mi_X0_best 0 := ⟨rfl, rfl, Nat.le_of_ble_eq_true rfl, by decide, by decide, by decide +kernel⟩
theorem ent_X0_best (x : Option Nat) : entL (mL mi_X0_best) [vR x] = [some (vR x), none, none, none, none] := rfl
/- X0_lets: cut at [0, 28, 31, 39, 51, 60] -/
abbrev mi_X0_lets : SmM := (yX0_lets, cX0_lets, 2, (none : Option FieldType), [])
theorem ok_X0_lets : callOk mi_X0_lets 1 := ⟨rfl, rfl, Nat.le_of_ble_eq_true rfl, by decide, by decide, by decide +kernel⟩
theorem ent_X0_lets (x : Option Nat) (x0 : Int) : entL (mL mi_X0_lets) [vR x, vI x0] = [some (vR x), some (vI x0)] := rfl
/- J2_add: cut at [0, 13] -/
abbrev mi_J2_add : SmM := (yJ2_add, cJ2_add, 2, (some FieldType.boolean : Option FieldType), [])
theorem ok_J2_add : callOk mi_J2_add 1 := ⟨rfl, rfl, Nat.le_of_ble_eq_true rfl, by decide, by decide, by decide +kernel⟩
theorem ent_J2_add (x : Option Nat) (x0 : Option Nat) : entL (mL mi_J2_add) [vR x, vR x0] = [some (vR x), some (vR x0)] := rfl
/- J2_pollFirst: cut at [0, 9, 24] -/
abbrev mi_J2_pollFirst : SmM := (yJ2_pollFirst, cJ2_pollFirst, 2, (some (FieldType.object "java/lang/Object") : Option FieldType), [])
theorem ok_J2_pollFirst : callOk mi_J2_pollFirst 0 := ⟨rfl, rfl, Nat.le_of_ble_eq_true rfl, by decide, by decide, by decide +kernel⟩
theorem ent_J2_pollFirst (x : Option Nat) : entL (mL mi_J2_pollFirst) [vR x] = [some (vR x), none] := rfl
/- X0_let: cut at [0, 22, 33] -/
abbrev mi_X0_let : SmM := (yX0_let, cX0_let, 2, (some FieldType.int : Option FieldType), [])
theorem ok_X0_let : callOk mi_X0_let 1 := ⟨rfl, rfl, Nat.le_of_ble_eq_true rfl, by decide, by decide, by decide +kernel⟩
theorem ent_X0_let (x : Option Nat) (x0 : Int) : entL (mL mi_X0_let) [vR x, vI x0] = [some (vR x), some (vI x0)] := rfl
/- X0_tick: cut at [0, 35] -/
abbrev mi_X0_tick : SmM := (yX0_tick, cX0_tick, 2, (some FieldType.int : Option FieldType), [])
theorem ok_X0_tick : callOk mi_X0_tick 1 := ⟨rfl, rfl, Nat.le_of_ble_eq_true rfl, by decide, by decide, by decide +kernel⟩
theorem ent_X0_tick (x : Option Nat) (x0 : Int) : entL (mL mi_X0_tick) [vR x, vI x0] = [some (vR x), some (vI x0)] := rfl
/- X0_send: cut at [0, 23, 38, 40, 53, 68] -/
abbrev mi_X0_send : SmM := (yX0_send, cX0_send, 5, (some FieldType.int : Option FieldType), [])
theorem ok_X0_send : callOk mi_X0_send 1 := ⟨rfl, rfl, Nat.le_of_ble_eq_true rfl, by decide, by decide, by decide +kernel⟩
theorem ent_X0_send (x : Option Nat) (x0 : Int) : entL (mL mi_X0_send) [vR x, vI x0] = [some (vR x), some (vI x0), none, none, none] := rfl
/- X0_feed: cut at [0] -/
abbrev mi_X0_feed : SmM := (yX0_feed, cX0_feed, 2, (some FieldType.int : Option FieldType), [])
theorem ok_X0_feed : callOk mi_X0_feed 1 := ⟨rfl, rfl, Nat.le_of_ble_eq_true rfl, by decide, by decide, by decide +kernel⟩
theorem ent_X0_feed (x : Option Nat) (x0 : Int) : entL (mL mi_X0_feed) [vR x, vI x0] = [some (vR x), some (vI x0)] := rfl
/- X0_end: cut at [0] -/
abbrev mi_X0_end : SmM := (yX0_end, cX0_end, 3, (some FieldType.int : Option FieldType), [])
theorem ok_X0_end : callOk mi_X0_end 1 := ⟨rfl, rfl, Nat.le_of_ble_eq_true rfl, by decide, by decide, by decide +kernel⟩
theorem ent_X0_end (x : Option Nat) (x0 : Int) : entL (mL mi_X0_end) [vR x, vI x0] = [some (vR x), some (vI x0), none] := rfl
/- X0_fault: cut at [0] -/
abbrev mi_X0_fault : SmM := (yX0_fault, cX0_fault, 1, (some FieldType.int : Option FieldType), [])
theorem ok_X0_fault : callOk mi_X0_fault 0 := ⟨rfl, rfl, Nat.le_of_ble_eq_true rfl, by decide, by decide, by decide +kernel⟩
theorem ent_X0_fault (x : Option Nat) : entL (mL mi_X0_fault) [vR x] = [some (vR x)] := rfl
/- X0_torn: cut at [0] -/
abbrev mi_X0_torn : SmM := (yX0_torn, cX0_torn, 1, (some FieldType.int : Option FieldType), [])
theorem ok_X0_torn : callOk mi_X0_torn 0 := ⟨rfl, rfl, Nat.le_of_ble_eq_true rfl, by decide, by decide, by decide +kernel⟩
theorem ent_X0_torn (x : Option Nat) : entL (mL mi_X0_torn) [vR x] = [some (vR x)] := rfl
/- X0_count: cut at [0, 57, 81, 118] -/
abbrev mi_X0_count : SmM := (yX0_count, cX0_count, 2, (some FieldType.int : Option FieldType), [])
theorem ok_X0_count : callOk mi_X0_count 1 := ⟨rfl, rfl, Nat.le_of_ble_eq_true rfl, by decide, by decide, by decide +kernel⟩
theorem ent_X0_count (x : Option Nat) (x0 : Int) : entL (mL mi_X0_count) [vR x, vI x0] = [some (vR x), some (vI x0)] := rfl
/- X0_journal: cut at [0, 27, 29, 36, 46] -/
abbrev mi_X0_journal : SmM := (yX0_journal, cX0_journal, 6, (some FieldType.int : Option FieldType), [])
theorem ok_X0_journal : callOk mi_X0_journal 2 := ⟨rfl, rfl, Nat.le_of_ble_eq_true rfl, by decide, by decide, by decide +kernel⟩
theorem ent_X0_journal (x : Option Nat) (x0 : Int) (x1 : Int) : entL (mL mi_X0_journal) [vR x, vI x0, vI x1] = [some (vR x), some (vI x0), some (vI x1), none, none, none] := rfl
/- J2_iterator: cut at [0, 9, 14] -/
abbrev mi_J2_iterator : SmM := (yJ2_iterator, cJ2_iterator, 1, (some (FieldType.object "java/util/Iterator") : Option FieldType), [])
theorem ok_J2_iterator : callOk mi_J2_iterator 0 := ⟨rfl, rfl, Nat.le_of_ble_eq_true rfl, by decide, by decide, by decide +kernel⟩
theorem ent_J2_iterator (x : Option Nat) : entL (mL mi_J2_iterator) [vR x] = [some (vR x)] := rfl
/- J25_hasNext: cut at [0] -/
abbrev mi_J25_hasNext : SmM := (yJ25_hasNext, cJ25_hasNext, 1, (some FieldType.boolean : Option FieldType), [])
theorem ok_J25_hasNext : callOk mi_J25_hasNext 0 := ⟨rfl, rfl, Nat.le_of_ble_eq_true rfl, by decide, by decide, by decide +kernel⟩
theorem ent_J25_hasNext (x : Option Nat) : entL (mL mi_J25_hasNext) [vR x] = [some (vR x)] := rfl
/- J26_next: cut at [0, 4] -/
abbrev mi_J26_next : SmM := (yJ26_next, cJ26_next, 1, (some (FieldType.object "java/lang/Object") : Option FieldType), [])
theorem ok_J26_next : callOk mi_J26_next 0 := ⟨rfl, rfl, Nat.le_of_ble_eq_true rfl, by decide, by decide, by decide +kernel⟩
theorem ent_J26_next (x : Option Nat) : entL (mL mi_J26_next) [vR x] = [some (vR x)] := rfl
/- X0_adds: cut at [0, 59, 66, 85, 97, 100, 120] -/
abbrev mi_X0_adds : SmM := (yX0_adds, cX0_adds, 5, (some FieldType.int : Option FieldType), [])
theorem ok_X0_adds : callOk mi_X0_adds 3 := ⟨rfl, rfl, Nat.le_of_ble_eq_true rfl, by decide, by decide, by decide +kernel⟩
theorem ent_X0_adds (x : Option Nat) (x0 : Int) (x1 : Int) (x2 : Int) : entL (mL mi_X0_adds) [vR x, vI x0, vI x1, vI x2] = [some (vR x), some (vI x0), some (vI x1), some (vI x2), none] := rfl
/- X0_add: cut at [0, 7] -/
abbrev mi_X0_add : SmM := (yX0_add, cX0_add, 4, (some FieldType.int : Option FieldType), [])
theorem ok_X0_add : callOk mi_X0_add 3 := ⟨rfl, rfl, Nat.le_of_ble_eq_true rfl, by decide, by decide, by decide +kernel⟩
theorem ent_X0_add (x : Option Nat) (x0 : Int) (x1 : Int) (x2 : Int) : entL (mL mi_X0_add) [vR x, vI x0, vI x1, vI x2] = [some (vR x), some (vI x0), some (vI x1), some (vI x2)] := rfl
/- X0_draw: cut at [0, 35, 100] -/
abbrev mi_X0_draw : SmM := (yX0_draw, cX0_draw, 7, (some FieldType.int : Option FieldType), [])
theorem ok_X0_draw : callOk mi_X0_draw 2 := ⟨rfl, rfl, Nat.le_of_ble_eq_true rfl, by decide, by decide, by decide +kernel⟩
theorem ent_X0_draw (x : Option Nat) (x0 : Int) (x1 : Int) : entL (mL mi_X0_draw) [vR x, vI x0, vI x1] = [some (vR x), some (vI x0), some (vI x1), none, none, none, none] := rfl
def tr_X0_lambda_rule_0_0 (d : Nat) (Rq : SmQ) (l : SmL) (st : List SmV) (S : SmS) (I : SmI) : Prop :=
  im_aload 0 l st S I fun l st S I =>
  im_getR 1 3 l st S I fun l st S I =>
  im_getR 2 8 l st S I fun l st S I =>
  im_iload 1 l st S I fun l st S I =>
  im_ald 102 l st S I fun l st S I =>
  im_zreturn Rq l st S I
theorem rv_X0_lambda_rule_0_0 {d : Nat} {Rq : SmQ} {l : SmL} {st : List SmV} {S : SmS} {I : SmI} (h : tr_X0_lambda_rule_0_0 d Rq l st S I) : SW mi_X0_lambda_rule_0 0 d Rq l st S I :=
  (show SmW mi_X0_lambda_rule_0 0 d Rq (tr_X0_lambda_rule_0_0 d Rq) from
  (xv_aload_n dX0_lambda_rule_0_0 rfl
  (xv_getR (k := 3) dX0_lambda_rule_0_1 cl_1 tg_1 in_X0 (Nat.le_of_ble_eq_true rfl) rfl q1710
  (xv_getRN (k := 8) dX0_lambda_rule_0_4 cl_2 tg_2 in_X1 (Nat.le_of_ble_eq_true rfl) rfl q213
  (xv_iload_n dX0_lambda_rule_0_7 rfl
  (xv_zald dX0_lambda_rule_0_8
  (xv_zreturn dX0_lambda_rule_0_9 rfl))))))) l st S I h
def tr_X0_lambda_rule_1_0 (d : Nat) (Rq : SmQ) (l : SmL) (st : List SmV) (S : SmS) (I : SmI) : Prop :=
  im_aload 0 l st S I fun l st S I =>
  im_getR 1 3 l st S I fun l st S I =>
  im_iload 1 l st S I fun l st S I =>
  im_p_X1_isDone d l st S I fun l st S I =>
  im_zreturn Rq l st S I
theorem rv_X0_lambda_rule_1_0 {d : Nat} {Rq : SmQ} {l : SmL} {st : List SmV} {S : SmS} {I : SmI} (h : tr_X0_lambda_rule_1_0 d Rq l st S I) : SW mi_X0_lambda_rule_1 0 d Rq l st S I :=
  (show SmW mi_X0_lambda_rule_1 0 d Rq (tr_X0_lambda_rule_1_0 d Rq) from
  (xv_aload_n dX0_lambda_rule_1_0 rfl
  (xv_getR (k := 3) dX0_lambda_rule_1_1 cl_1 tg_1 in_X0 (Nat.le_of_ble_eq_true rfl) rfl q1710
  (xv_iload_n dX0_lambda_rule_1_4 rfl
  (xv_p_X1_isDone dX0_lambda_rule_1_5 (lw_V q580 q581 q582 q105 q583)
  (xv_zreturn dX0_lambda_rule_1_8 rfl)))))) l st S I h
def tr_X0_lambda_rule_2_0 (d : Nat) (Rq : SmQ) (l : SmL) (st : List SmV) (S : SmS) (I : SmI) : Prop :=
  im_aload 0 l st S I fun l st S I =>
  im_getR 1 3 l st S I fun l st S I =>
  im_aload 0 l st S I fun l st S I =>
  im_getR 1 4 l st S I fun l st S I =>
  im_iload 1 l st S I fun l st S I =>
  im_callS 3 mi_X0_against d (retK mi_X0_lambda_rule_2 9 12 d Rq l) st S I
theorem rv_X0_lambda_rule_2_0 {d : Nat} {Rq : SmQ} {l : SmL} {st : List SmV} {S : SmS} {I : SmI} (h : tr_X0_lambda_rule_2_0 d Rq l st S I) : SW mi_X0_lambda_rule_2 0 d Rq l st S I :=
  (show SmW mi_X0_lambda_rule_2 0 d Rq (tr_X0_lambda_rule_2_0 d Rq) from
  (xv_aload_n dX0_lambda_rule_2_0 rfl
  (xv_getR (k := 3) dX0_lambda_rule_2_1 cl_1 tg_1 in_X0 (Nat.le_of_ble_eq_true rfl) rfl q1710
  (xv_aload_n dX0_lambda_rule_2_4 rfl
  (xv_getR (k := 4) dX0_lambda_rule_2_5 cl_1 tg_1 in_X0 (Nat.le_of_ble_eq_true rfl) rfl q1711
  (xv_iload_n dX0_lambda_rule_2_8 rfl
  (xv_callS dX0_lambda_rule_2_9 ok_X0_against (lw_S q621 q622 q104 q623)))))))) l st S I h
def tr_X0_lambda_rule_2_12 (d : Nat) (Rq : SmQ) (l : SmL) (st : List SmV) (S : SmS) (I : SmI) : Prop :=
  im_zne l st S I (fun l st S I =>
  im_ic 0 l st S I fun l st S I =>
  im_zreturn Rq l st S I) (fun l st S I =>
  im_ic 1 l st S I fun l st S I =>
  im_zreturn Rq l st S I)
theorem rv_X0_lambda_rule_2_12 {d : Nat} {Rq : SmQ} {l : SmL} {st : List SmV} {S : SmS} {I : SmI} (h : tr_X0_lambda_rule_2_12 d Rq l st S I) : SW mi_X0_lambda_rule_2 12 d Rq l st S I :=
  (show SmW mi_X0_lambda_rule_2 12 d Rq (tr_X0_lambda_rule_2_12 d Rq) from
  (xv_zne dX0_lambda_rule_2_12 rfl
  (xv_iconst dX0_lambda_rule_2_19 rfl (inRd rfl)
  (xv_zreturn dX0_lambda_rule_2_20 rfl))
  (xv_iconst dX0_lambda_rule_2_15 rfl (inRd rfl)
  (xv_goto dX0_lambda_rule_2_16 rfl (xv_zreturn dX0_lambda_rule_2_20 rfl))))) l st S I h
def tr_X0_lambda_place_3_0 (d : Nat) (Rq : SmQ) (l : SmL) (st : List SmV) (S : SmS) (I : SmI) : Prop :=
  im_aload 0 l st S I fun l st S I =>
  im_getR 1 3 l st S I fun l st S I =>
  im_p_X1_posture d l st S I fun l st S I =>
  im_iload 2 l st S I fun l st S I =>
  im_p_X0_placeIn d l st S I fun l st S I =>
  im_iload 1 l st S I fun l st S I =>
  im_cne l st S I (fun l st S I =>
  im_ic 0 l st S I fun l st S I =>
  im_zreturn Rq l st S I) (fun l st S I =>
  im_ic 1 l st S I fun l st S I =>
  im_zreturn Rq l st S I)
theorem rv_X0_lambda_place_3_0 {d : Nat} {Rq : SmQ} {l : SmL} {st : List SmV} {S : SmS} {I : SmI} (h : tr_X0_lambda_place_3_0 d Rq l st S I) : SW mi_X0_lambda_place_3 0 d Rq l st S I :=
  (show SmW mi_X0_lambda_place_3 0 d Rq (tr_X0_lambda_place_3_0 d Rq) from
  (xv_aload_n dX0_lambda_place_3_0 rfl
  (xv_getR (k := 3) dX0_lambda_place_3_1 cl_1 tg_1 in_X0 (Nat.le_of_ble_eq_true rfl) rfl q1710
  (xv_p_X1_posture dX0_lambda_place_3_4 (lw_V q600 q497 q498 q105 q499)
  (xv_iload_n dX0_lambda_place_3_7 rfl
  (xv_p_X0_placeIn dX0_lambda_place_3_8 (lw_S q605 q509 q104 q510)
  (xv_iload_n dX0_lambda_place_3_11 rfl
  (xv_cne dX0_lambda_place_3_12 rfl
  (xv_iconst dX0_lambda_place_3_19 rfl (inRd rfl)
  (xv_zreturn dX0_lambda_place_3_20 rfl))
  (xv_iconst dX0_lambda_place_3_15 rfl (inRd rfl)
  (xv_goto dX0_lambda_place_3_16 rfl (xv_zreturn dX0_lambda_place_3_20 rfl))))))))))) l st S I h
def tr_X0_lambda_beforeBy_4_0 (d : Nat) (Rq : SmQ) (l : SmL) (st : List SmV) (S : SmS) (I : SmI) : Prop :=
  im_aload 0 l st S I fun l st S I =>
  im_iload 1 l st S I fun l st S I =>
  im_p_X1_still d l st S I fun l st S I =>
  im_aload 0 l st S I fun l st S I =>
  im_iload 2 l st S I fun l st S I =>
  im_p_X1_still d l st S I fun l st S I =>
  im_clt l st S I (fun l st S I =>
  im_ic 1 l st S I fun l st S I =>
  im_zreturn Rq l st S I) (fun l st S I =>
  im_aload 0 l st S I fun l st S I =>
  im_iload 1 l st S I fun l st S I =>
  im_p_X1_still d l st S I fun l st S I =>
  im_aload 0 l st S I fun l st S I =>
  im_iload 2 l st S I fun l st S I =>
  im_p_X1_still d l st S I fun l st S I =>
  im_cne l st S I (fun l st S I =>
  im_ic 0 l st S I fun l st S I =>
  im_zreturn Rq l st S I) (fun l st S I =>
  im_iload 1 l st S I fun l st S I =>
  im_iload 2 l st S I fun l st S I =>
  im_cge l st S I (fun l st S I =>
  im_ic 0 l st S I fun l st S I =>
  im_zreturn Rq l st S I) (fun l st S I =>
  im_ic 1 l st S I fun l st S I =>
  im_zreturn Rq l st S I)))
theorem rv_X0_lambda_beforeBy_4_0 {d : Nat} {Rq : SmQ} {l : SmL} {st : List SmV} {S : SmS} {I : SmI} (h : tr_X0_lambda_beforeBy_4_0 d Rq l st S I) : SW mi_X0_lambda_beforeBy_4 0 d Rq l st S I :=
  (show SmW mi_X0_lambda_beforeBy_4 0 d Rq (tr_X0_lambda_beforeBy_4_0 d Rq) from
  (xv_aload_n dX0_lambda_beforeBy_4_0 rfl
  (xv_iload_n dX0_lambda_beforeBy_4_1 rfl
  (xv_p_X1_still dX0_lambda_beforeBy_4_2 (lw_V q656 q657 q658 q105 q659)
  (xv_aload_n dX0_lambda_beforeBy_4_5 rfl
  (xv_iload_n dX0_lambda_beforeBy_4_6 rfl
  (xv_p_X1_still dX0_lambda_beforeBy_4_7 (lw_V q656 q657 q658 q105 q659)
  (xv_clt dX0_lambda_beforeBy_4_10 rfl
  (xv_iconst dX0_lambda_beforeBy_4_31 rfl (inRd rfl)
  (xv_goto dX0_lambda_beforeBy_4_32 rfl (xv_zreturn dX0_lambda_beforeBy_4_36 rfl)))
  (xv_aload_n dX0_lambda_beforeBy_4_13 rfl
  (xv_iload_n dX0_lambda_beforeBy_4_14 rfl
  (xv_p_X1_still dX0_lambda_beforeBy_4_15 (lw_V q656 q657 q658 q105 q659)
  (xv_aload_n dX0_lambda_beforeBy_4_18 rfl
  (xv_iload_n dX0_lambda_beforeBy_4_19 rfl
  (xv_p_X1_still dX0_lambda_beforeBy_4_20 (lw_V q656 q657 q658 q105 q659)
  (xv_cne dX0_lambda_beforeBy_4_23 rfl
  (xv_iconst dX0_lambda_beforeBy_4_35 rfl (inRd rfl)
  (xv_zreturn dX0_lambda_beforeBy_4_36 rfl))
  (xv_iload_n dX0_lambda_beforeBy_4_26 rfl
  (xv_iload_n dX0_lambda_beforeBy_4_27 rfl
  (xv_cge dX0_lambda_beforeBy_4_28 rfl
  (xv_iconst dX0_lambda_beforeBy_4_35 rfl (inRd rfl)
  (xv_zreturn dX0_lambda_beforeBy_4_36 rfl))
  (xv_iconst dX0_lambda_beforeBy_4_31 rfl (inRd rfl)
  (xv_goto dX0_lambda_beforeBy_4_32 rfl (xv_zreturn dX0_lambda_beforeBy_4_36 rfl))))))))))))))))))))) l st S I h
def tr_X0_lambda_beforeBy_5_0 (d : Nat) (Rq : SmQ) (l : SmL) (st : List SmV) (S : SmS) (I : SmI) : Prop :=
  im_aload 0 l st S I fun l st S I =>
  im_iload 1 l st S I fun l st S I =>
  im_p_X1_still d l st S I fun l st S I =>
  im_aload 0 l st S I fun l st S I =>
  im_iload 2 l st S I fun l st S I =>
  im_p_X1_still d l st S I fun l st S I =>
  im_cgt l st S I (fun l st S I =>
  im_ic 1 l st S I fun l st S I =>
  im_zreturn Rq l st S I) (fun l st S I =>
  im_aload 0 l st S I fun l st S I =>
  im_iload 1 l st S I fun l st S I =>
  im_p_X1_still d l st S I fun l st S I =>
  im_aload 0 l st S I fun l st S I =>
  im_iload 2 l st S I fun l st S I =>
  im_p_X1_still d l st S I fun l st S I =>
  im_cne l st S I (fun l st S I =>
  im_ic 0 l st S I fun l st S I =>
  im_zreturn Rq l st S I) (fun l st S I =>
  im_iload 1 l st S I fun l st S I =>
  im_iload 2 l st S I fun l st S I =>
  im_cge l st S I (fun l st S I =>
  im_ic 0 l st S I fun l st S I =>
  im_zreturn Rq l st S I) (fun l st S I =>
  im_ic 1 l st S I fun l st S I =>
  im_zreturn Rq l st S I)))
theorem rv_X0_lambda_beforeBy_5_0 {d : Nat} {Rq : SmQ} {l : SmL} {st : List SmV} {S : SmS} {I : SmI} (h : tr_X0_lambda_beforeBy_5_0 d Rq l st S I) : SW mi_X0_lambda_beforeBy_5 0 d Rq l st S I :=
  (show SmW mi_X0_lambda_beforeBy_5 0 d Rq (tr_X0_lambda_beforeBy_5_0 d Rq) from
  (xv_aload_n dX0_lambda_beforeBy_5_0 rfl
  (xv_iload_n dX0_lambda_beforeBy_5_1 rfl
  (xv_p_X1_still dX0_lambda_beforeBy_5_2 (lw_V q656 q657 q658 q105 q659)
  (xv_aload_n dX0_lambda_beforeBy_5_5 rfl
  (xv_iload_n dX0_lambda_beforeBy_5_6 rfl
  (xv_p_X1_still dX0_lambda_beforeBy_5_7 (lw_V q656 q657 q658 q105 q659)
  (xv_cgt dX0_lambda_beforeBy_5_10 rfl
  (xv_iconst dX0_lambda_beforeBy_5_31 rfl (inRd rfl)
  (xv_goto dX0_lambda_beforeBy_5_32 rfl (xv_zreturn dX0_lambda_beforeBy_5_36 rfl)))
  (xv_aload_n dX0_lambda_beforeBy_5_13 rfl
  (xv_iload_n dX0_lambda_beforeBy_5_14 rfl
  (xv_p_X1_still dX0_lambda_beforeBy_5_15 (lw_V q656 q657 q658 q105 q659)
  (xv_aload_n dX0_lambda_beforeBy_5_18 rfl
  (xv_iload_n dX0_lambda_beforeBy_5_19 rfl
  (xv_p_X1_still dX0_lambda_beforeBy_5_20 (lw_V q656 q657 q658 q105 q659)
  (xv_cne dX0_lambda_beforeBy_5_23 rfl
  (xv_iconst dX0_lambda_beforeBy_5_35 rfl (inRd rfl)
  (xv_zreturn dX0_lambda_beforeBy_5_36 rfl))
  (xv_iload_n dX0_lambda_beforeBy_5_26 rfl
  (xv_iload_n dX0_lambda_beforeBy_5_27 rfl
  (xv_cge dX0_lambda_beforeBy_5_28 rfl
  (xv_iconst dX0_lambda_beforeBy_5_35 rfl (inRd rfl)
  (xv_zreturn dX0_lambda_beforeBy_5_36 rfl))
  (xv_iconst dX0_lambda_beforeBy_5_31 rfl (inRd rfl)
  (xv_goto dX0_lambda_beforeBy_5_32 rfl (xv_zreturn dX0_lambda_beforeBy_5_36 rfl))))))))))))))))))))) l st S I h
def tr_X0_rule_0 (d : Nat) (Rq : SmQ) (l : SmL) (st : List SmV) (S : SmS) (I : SmI) : Prop :=
  im_iload 1 l st S I fun l st S I =>
  im_tsw 0 8 [(fun l st S I =>
  im_aload 0 l st S I fun l st S I =>
  im_getR 1 3 l st S I fun l st S I =>
  im_getI 2 3 l st S I fun l st S I =>
  im_ireturn Rq l st S I), (fun l st S I =>
  im_aload 0 l st S I fun l st S I =>
  im_getR 1 3 l st S I fun l st S I =>
  im_getI 2 10 l st S I fun l st S I =>
  im_ireturn Rq l st S I), (fun l st S I =>
  im_aload 0 l st S I fun l st S I =>
  im_getR 1 3 l st S I fun l st S I =>
  im_getI 2 11 l st S I fun l st S I =>
  im_ireturn Rq l st S I), (fun l st S I =>
  im_aload 0 l st S I fun l st S I =>
  im_aload 0 l st S I fun l st S I =>
  im_dyn 51 l st S I fun l st S I =>
  im_callV 1 1 mi_X0_counted d (retK mi_X0_rule 83 86 d Rq l) st S I), (fun l st S I =>
  im_aload 0 l st S I fun l st S I =>
  im_aload 0 l st S I fun l st S I =>
  im_dyn 52 l st S I fun l st S I =>
  im_callV 1 1 mi_X0_counted d (retK mi_X0_rule 94 97 d Rq l) st S I), (fun l st S I =>
  im_aload 0 l st S I fun l st S I =>
  im_getR 1 5 l st S I fun l st S I =>
  im_callV 0 12 mi_J2_size d (retK mi_X0_rule 102 105 d Rq l) st S I), (fun l st S I =>
  im_aload 0 l st S I fun l st S I =>
  im_ic (-1) l st S I fun l st S I =>
  im_callV 1 1 mi_X0_byOne d (retK mi_X0_rule 108 111 d Rq l) st S I), (fun l st S I =>
  im_aload 0 l st S I fun l st S I =>
  im_callV 0 1 mi_X0_movesLeft d (retK mi_X0_rule 122 125 d Rq l) st S I), (fun l st S I =>
  im_aload 0 l st S I fun l st S I =>
  im_aload 0 l st S I fun l st S I =>
  im_dyn 53 l st S I fun l st S I =>
  im_callV 1 1 mi_X0_counted d (retK mi_X0_rule 133 136 d Rq l) st S I)] (fun l st S I =>
  im_ic (-1) l st S I fun l st S I =>
  im_ireturn Rq l st S I) l st S I
theorem rv_X0_rule_0 {d : Nat} {Rq : SmQ} {l : SmL} {st : List SmV} {S : SmS} {I : SmI} (h : tr_X0_rule_0 d Rq l st S I) : SW mi_X0_rule 0 d Rq l st S I :=
  (show SmW mi_X0_rule 0 d Rq (tr_X0_rule_0 d Rq) from
  (xv_iload_n dX0_rule_0 rfl
  (xv_tsw dX0_rule_1 rfl ⟨⟨52, rfl, (xv_aload_n dX0_rule_52 rfl
  (xv_getR (k := 3) dX0_rule_53 cl_1 tg_1 in_X0 (Nat.le_of_ble_eq_true rfl) rfl q1710
  (xv_getIN (k := 3) dX0_rule_56 cl_2 tg_2 in_X1 (Nat.le_of_ble_eq_true rfl) rfl q201
  (xv_ireturn dX0_rule_59 rfl))))⟩, ⟨60, rfl, (xv_aload_n dX0_rule_60 rfl
  (xv_getR (k := 3) dX0_rule_61 cl_1 tg_1 in_X0 (Nat.le_of_ble_eq_true rfl) rfl q1710
  (xv_getIN (k := 10) dX0_rule_64 cl_2 tg_2 in_X1 (Nat.le_of_ble_eq_true rfl) rfl q219
  (xv_ireturn dX0_rule_67 rfl))))⟩, ⟨68, rfl, (xv_aload_n dX0_rule_68 rfl
  (xv_getR (k := 3) dX0_rule_69 cl_1 tg_1 in_X0 (Nat.le_of_ble_eq_true rfl) rfl q1710
  (xv_getIN (k := 11) dX0_rule_72 cl_2 tg_2 in_X1 (Nat.le_of_ble_eq_true rfl) rfl q221
  (xv_ireturn dX0_rule_75 rfl))))⟩, ⟨76, rfl, (xv_aload_n dX0_rule_76 rfl
  (xv_aload_n dX0_rule_77 rfl
  (xv_dyn_rule_78 rfl dX0_rule_78
  (xv_callV dX0_rule_83 cl_1 tg_1 ok_X0_counted rfl (lw_V q568 q570 qs13 q104 q572)))))⟩, ⟨87, rfl, (xv_aload_n dX0_rule_87 rfl
  (xv_aload_n dX0_rule_88 rfl
  (xv_dyn_rule_89 rfl dX0_rule_89
  (xv_callV dX0_rule_94 cl_1 tg_1 ok_X0_counted rfl (lw_V q568 q570 qs13 q104 q572)))))⟩, ⟨98, rfl, (xv_aload_n dX0_rule_98 rfl
  (xv_getR (k := 5) dX0_rule_99 cl_1 tg_1 in_X0 (Nat.le_of_ble_eq_true rfl) rfl q1712
  (xv_callV dX0_rule_102 cl_12 tg_12 ok_J2_size rfl (lw_V q584 q585 q586 q109 q587))))⟩, ⟨106, rfl, (xv_aload_n dX0_rule_106 rfl
  (xv_iconst dX0_rule_107 rfl (inRd rfl)
  (xv_callV dX0_rule_108 cl_1 tg_1 ok_X0_byOne rfl (lw_V q596 q598 qs15 q104 q599))))⟩, ⟨121, rfl, (xv_aload_n dX0_rule_121 rfl
  (xv_callV dX0_rule_122 cl_1 tg_1 ok_X0_movesLeft rfl (lw_V q611 q613 qs17 q104 q614)))⟩, ⟨126, rfl, (xv_aload_n dX0_rule_126 rfl
  (xv_aload_n dX0_rule_127 rfl
  (xv_dyn_rule_128 rfl dX0_rule_128
  (xv_callV dX0_rule_133 cl_1 tg_1 ok_X0_counted rfl (lw_V q568 q570 qs13 q104 q572)))))⟩, trivial⟩ rfl (xv_iconst dX0_rule_137 rfl (inRd rfl)
  (xv_ireturn dX0_rule_138 rfl))))) l st S I h
def tr_X0_rule_86 (d : Nat) (Rq : SmQ) (l : SmL) (st : List SmV) (S : SmS) (I : SmI) : Prop :=
  im_ireturn Rq l st S I
theorem rv_X0_rule_86 {d : Nat} {Rq : SmQ} {l : SmL} {st : List SmV} {S : SmS} {I : SmI} (h : tr_X0_rule_86 d Rq l st S I) : SW mi_X0_rule 86 d Rq l st S I :=
  (show SmW mi_X0_rule 86 d Rq (tr_X0_rule_86 d Rq) from
  (xv_ireturn dX0_rule_86 rfl)) l st S I h
def tr_X0_rule_97 (d : Nat) (Rq : SmQ) (l : SmL) (st : List SmV) (S : SmS) (I : SmI) : Prop :=
  im_ireturn Rq l st S I
theorem rv_X0_rule_97 {d : Nat} {Rq : SmQ} {l : SmL} {st : List SmV} {S : SmS} {I : SmI} (h : tr_X0_rule_97 d Rq l st S I) : SW mi_X0_rule 97 d Rq l st S I :=
  (show SmW mi_X0_rule 97 d Rq (tr_X0_rule_97 d Rq) from
  (xv_ireturn dX0_rule_97 rfl)) l st S I h
def tr_X0_rule_105 (d : Nat) (Rq : SmQ) (l : SmL) (st : List SmV) (S : SmS) (I : SmI) : Prop :=
  im_ireturn Rq l st S I
theorem rv_X0_rule_105 {d : Nat} {Rq : SmQ} {l : SmL} {st : List SmV} {S : SmS} {I : SmI} (h : tr_X0_rule_105 d Rq l st S I) : SW mi_X0_rule 105 d Rq l st S I :=
  (show SmW mi_X0_rule 105 d Rq (tr_X0_rule_105 d Rq) from
  (xv_ireturn dX0_rule_105 rfl)) l st S I h
def tr_X0_rule_111 (d : Nat) (Rq : SmQ) (l : SmL) (st : List SmV) (S : SmS) (I : SmI) : Prop :=
  im_ic 1 l st S I fun l st S I =>
  im_cne l st S I (fun l st S I =>
  im_ic 0 l st S I fun l st S I =>
  im_ireturn Rq l st S I) (fun l st S I =>
  im_ic 1 l st S I fun l st S I =>
  im_ireturn Rq l st S I)
theorem rv_X0_rule_111 {d : Nat} {Rq : SmQ} {l : SmL} {st : List SmV} {S : SmS} {I : SmI} (h : tr_X0_rule_111 d Rq l st S I) : SW mi_X0_rule 111 d Rq l st S I :=
  (show SmW mi_X0_rule 111 d Rq (tr_X0_rule_111 d Rq) from
  (xv_iconst dX0_rule_111 rfl (inRd rfl)
  (xv_cne dX0_rule_112 rfl
  (xv_iconst dX0_rule_119 rfl (inRd rfl)
  (xv_ireturn dX0_rule_120 rfl))
  (xv_iconst dX0_rule_115 rfl (inRd rfl)
  (xv_goto dX0_rule_116 rfl (xv_ireturn dX0_rule_120 rfl)))))) l st S I h
def tr_X0_rule_125 (d : Nat) (Rq : SmQ) (l : SmL) (st : List SmV) (S : SmS) (I : SmI) : Prop :=
  im_ireturn Rq l st S I
theorem rv_X0_rule_125 {d : Nat} {Rq : SmQ} {l : SmL} {st : List SmV} {S : SmS} {I : SmI} (h : tr_X0_rule_125 d Rq l st S I) : SW mi_X0_rule 125 d Rq l st S I :=
  (show SmW mi_X0_rule 125 d Rq (tr_X0_rule_125 d Rq) from
  (xv_ireturn dX0_rule_125 rfl)) l st S I h
def tr_X0_rule_136 (d : Nat) (Rq : SmQ) (l : SmL) (st : List SmV) (S : SmS) (I : SmI) : Prop :=
  im_ireturn Rq l st S I
theorem rv_X0_rule_136 {d : Nat} {Rq : SmQ} {l : SmL} {st : List SmV} {S : SmS} {I : SmI} (h : tr_X0_rule_136 d Rq l st S I) : SW mi_X0_rule 136 d Rq l st S I :=
  (show SmW mi_X0_rule 136 d Rq (tr_X0_rule_136 d Rq) from
  (xv_ireturn dX0_rule_136 rfl)) l st S I h
def tr_X0_place_0 (d : Nat) (Rq : SmQ) (l : SmL) (st : List SmV) (S : SmS) (I : SmI) : Prop :=
  im_aload 0 l st S I fun l st S I =>
  im_iload 1 l st S I fun l st S I =>
  im_p_X0_isPlace d l st S I fun l st S I =>
  im_zne l st S I (fun l st S I =>
  im_iload 2 l st S I fun l st S I =>
  im_tsw 0 5 [(fun l st S I =>
  im_aload 0 l st S I fun l st S I =>
  im_getR 1 3 l st S I fun l st S I =>
  im_getR 2 1 l st S I fun l st S I =>
  im_iload 1 l st S I fun l st S I =>
  im_ald 100 l st S I fun l st S I =>
  im_ireturn Rq l st S I), (fun l st S I =>
  SW mi_X0_place 58 d Rq l st S I), (fun l st S I =>
  SW mi_X0_place 58 d Rq l st S I), (fun l st S I =>
  SW mi_X0_place 58 d Rq l st S I), (fun l st S I =>
  im_aload 0 l st S I fun l st S I =>
  im_aload 0 l st S I fun l st S I =>
  im_iload 1 l st S I fun l st S I =>
  im_dyn4 l st S I fun l st S I =>
  im_callV 1 1 mi_X0_counted d (retK mi_X0_place 98 101 d Rq l) st S I), (fun l st S I =>
  im_iload 1 l st S I fun l st S I =>
  im_ic 1 l st S I fun l st S I =>
  im_iadd l st S I fun l st S I =>
  im_aload 0 l st S I fun l st S I =>
  im_getR 1 3 l st S I fun l st S I =>
  im_getI 2 3 l st S I fun l st S I =>
  im_cge l st S I (fun l st S I =>
  im_ic (-4) l st S I fun l st S I =>
  im_ireturn Rq l st S I) (fun l st S I =>
  im_aload 0 l st S I fun l st S I =>
  im_getR 1 3 l st S I fun l st S I =>
  im_getR 2 2 l st S I fun l st S I =>
  im_iload 1 l st S I fun l st S I =>
  im_ald 100 l st S I fun l st S I =>
  im_ireturn Rq l st S I))] (fun l st S I =>
  im_ic (-1) l st S I fun l st S I =>
  im_ireturn Rq l st S I) l st S I) (fun l st S I =>
  im_ic (-1) l st S I fun l st S I =>
  im_ireturn Rq l st S I)
theorem rv_X0_place_0 {d : Nat} {Rq : SmQ} {l : SmL} {st : List SmV} {S : SmS} {I : SmI} (h : tr_X0_place_0 d Rq l st S I) : SW mi_X0_place 0 d Rq l st S I :=
  (show SmW mi_X0_place 0 d Rq (tr_X0_place_0 d Rq) from
  (xv_aload_n dX0_place_0 rfl
  (xv_iload_n dX0_place_1 rfl
  (xv_p_X0_isPlace dX0_place_2 (lw_V q641 q643 qs19 q104 q644)
  (xv_zne dX0_place_5 rfl
  (xv_iload_n dX0_place_10 rfl
  (xv_tsw dX0_place_11 rfl ⟨⟨48, rfl, (xv_aload_n dX0_place_48 rfl
  (xv_getR (k := 3) dX0_place_49 cl_1 tg_1 in_X0 (Nat.le_of_ble_eq_true rfl) rfl q1710
  (xv_getRN (k := 1) dX0_place_52 cl_2 tg_2 in_X1 (Nat.le_of_ble_eq_true rfl) rfl q194
  (xv_iload_n dX0_place_55 rfl
  (xv_iald dX0_place_56
  (xv_ireturn dX0_place_57 rfl))))))⟩, ⟨58, rfl, (fun _ _ _ _ h => h)⟩, ⟨58, rfl, (fun _ _ _ _ h => h)⟩, ⟨58, rfl, (fun _ _ _ _ h => h)⟩, ⟨90, rfl, (xv_aload_n dX0_place_90 rfl
  (xv_aload_n dX0_place_91 rfl
  (xv_iload_n dX0_place_92 rfl
  (xv_dyn_place_93 rfl dX0_place_93
  (xv_callV dX0_place_98 cl_1 tg_1 ok_X0_counted rfl (lw_V q568 q570 qs13 q104 q572))))))⟩, ⟨102, rfl, (xv_iload_n dX0_place_102 rfl
  (xv_iconst dX0_place_103 rfl (inRd rfl)
  (xv_iadd dX0_place_104
  (xv_aload_n dX0_place_105 rfl
  (xv_getR (k := 3) dX0_place_106 cl_1 tg_1 in_X0 (Nat.le_of_ble_eq_true rfl) rfl q1710
  (xv_getIN (k := 3) dX0_place_109 cl_2 tg_2 in_X1 (Nat.le_of_ble_eq_true rfl) rfl q201
  (xv_cge dX0_place_112 rfl
  (xv_bipush dX0_place_127 rfl (inRd rfl)
  (xv_ireturn dX0_place_129 rfl))
  (xv_aload_n dX0_place_115 rfl
  (xv_getR (k := 3) dX0_place_116 cl_1 tg_1 in_X0 (Nat.le_of_ble_eq_true rfl) rfl q1710
  (xv_getRN (k := 2) dX0_place_119 cl_2 tg_2 in_X1 (Nat.le_of_ble_eq_true rfl) rfl q197
  (xv_iload_n dX0_place_122 rfl
  (xv_iald dX0_place_123
  (xv_goto dX0_place_124 rfl (xv_ireturn dX0_place_129 rfl))))))))))))))⟩, trivial⟩ rfl (xv_iconst dX0_place_130 rfl (inRd rfl)
  (xv_ireturn dX0_place_131 rfl))))
  (xv_iconst dX0_place_8 rfl (inRd rfl)
  (xv_ireturn dX0_place_9 rfl))))))) l st S I h
def tr_X0_place_58 (d : Nat) (Rq : SmQ) (l : SmL) (st : List SmV) (S : SmS) (I : SmI) : Prop :=
  im_iload 2 l st S I fun l st S I =>
  im_aload 0 l st S I fun l st S I =>
  im_getR 1 3 l st S I fun l st S I =>
  im_getR 2 1 l st S I fun l st S I =>
  im_iload 1 l st S I fun l st S I =>
  im_ald 100 l st S I fun l st S I =>
  im_cgt l st S I (fun l st S I =>
  im_ic (-4) l st S I fun l st S I =>
  im_ireturn Rq l st S I) (fun l st S I =>
  im_aload 0 l st S I fun l st S I =>
  im_getR 1 3 l st S I fun l st S I =>
  im_getR 2 0 l st S I fun l st S I =>
  im_iload 1 l st S I fun l st S I =>
  im_aald 104 l st S I fun l st S I =>
  im_iload 2 l st S I fun l st S I =>
  im_ic 1 l st S I fun l st S I =>
  im_isub l st S I fun l st S I =>
  im_ald 100 l st S I fun l st S I =>
  im_ireturn Rq l st S I)
theorem rv_X0_place_58 {d : Nat} {Rq : SmQ} {l : SmL} {st : List SmV} {S : SmS} {I : SmI} (h : tr_X0_place_58 d Rq l st S I) : SW mi_X0_place 58 d Rq l st S I :=
  (show SmW mi_X0_place 58 d Rq (tr_X0_place_58 d Rq) from
  (xv_iload_n dX0_place_58 rfl
  (xv_aload_n dX0_place_59 rfl
  (xv_getR (k := 3) dX0_place_60 cl_1 tg_1 in_X0 (Nat.le_of_ble_eq_true rfl) rfl q1710
  (xv_getRN (k := 1) dX0_place_63 cl_2 tg_2 in_X1 (Nat.le_of_ble_eq_true rfl) rfl q194
  (xv_iload_n dX0_place_66 rfl
  (xv_iald dX0_place_67
  (xv_cgt dX0_place_68 rfl
  (xv_bipush dX0_place_87 rfl (inRd rfl)
  (xv_ireturn dX0_place_89 rfl))
  (xv_aload_n dX0_place_71 rfl
  (xv_getR (k := 3) dX0_place_72 cl_1 tg_1 in_X0 (Nat.le_of_ble_eq_true rfl) rfl q1710
  (xv_getRN (k := 0) dX0_place_75 cl_2 tg_2 in_X1 (Nat.le_of_ble_eq_true rfl) rfl q190
  (xv_iload_n dX0_place_78 rfl
  (xv_aald dX0_place_79 ⟨(Nat.le_of_ble_eq_true rfl), (Nat.le_of_ble_eq_true rfl)⟩
  (xv_iload_n dX0_place_80 rfl
  (xv_iconst dX0_place_81 rfl (inRd rfl)
  (xv_isub dX0_place_82
  (xv_iald dX0_place_83
  (xv_goto dX0_place_84 rfl (xv_ireturn dX0_place_89 rfl))))))))))))))))))) l st S I h
def tr_X0_place_101 (d : Nat) (Rq : SmQ) (l : SmL) (st : List SmV) (S : SmS) (I : SmI) : Prop :=
  im_ireturn Rq l st S I
theorem rv_X0_place_101 {d : Nat} {Rq : SmQ} {l : SmL} {st : List SmV} {S : SmS} {I : SmI} (h : tr_X0_place_101 d Rq l st S I) : SW mi_X0_place 101 d Rq l st S I :=
  (show SmW mi_X0_place 101 d Rq (tr_X0_place_101 d Rq) from
  (xv_ireturn dX0_place_101 rfl)) l st S I h
def tr_X0_beforeBy_0 (d : Nat) (Rq : SmQ) (l : SmL) (st : List SmV) (S : SmS) (I : SmI) : Prop :=
  im_iload 2 l st S I fun l st S I =>
  im_lsw [(0, fun l st S I =>
  im_aload 0 l st S I fun l st S I =>
  im_dyn 55 l st S I fun l st S I =>
  im_areturn Rq l st S I), (1, fun l st S I =>
  im_aload 1 l st S I fun l st S I =>
  im_dyn 56 l st S I fun l st S I =>
  im_areturn Rq l st S I)] (fun l st S I =>
  im_aload 1 l st S I fun l st S I =>
  im_dyn 57 l st S I fun l st S I =>
  im_areturn Rq l st S I) l st S I
theorem rv_X0_beforeBy_0 {d : Nat} {Rq : SmQ} {l : SmL} {st : List SmV} {S : SmS} {I : SmI} (h : tr_X0_beforeBy_0 d Rq l st S I) : SW mi_X0_beforeBy 0 d Rq l st S I :=
  (show SmW mi_X0_beforeBy 0 d Rq (tr_X0_beforeBy_0 d Rq) from
  (xv_iload_n dX0_beforeBy_0 rfl
  (xv_lsw dX0_beforeBy_1 (by decide) ⟨⟨rfl, 28, rfl, (xv_aload_n dX0_beforeBy_28 rfl
  (xv_dyn_beforeBy_29 rfl dX0_beforeBy_29
  (xv_areturn dX0_beforeBy_34 rfl rfl)))⟩, ⟨rfl, 35, rfl, (xv_aload_n dX0_beforeBy_35 rfl
  (xv_dyn_beforeBy_36 rfl dX0_beforeBy_36
  (xv_areturn dX0_beforeBy_41 rfl rfl)))⟩, trivial⟩ rfl (xv_aload_n dX0_beforeBy_42 rfl
  (xv_dyn_beforeBy_43 rfl dX0_beforeBy_43
  (xv_areturn dX0_beforeBy_48 rfl rfl)))))) l st S I h
def tr_X0_chosen_0 (d : Nat) (Rq : SmQ) (l : SmL) (st : List SmV) (S : SmS) (I : SmI) : Prop :=
  im_ic (-4) l st S I fun l st S I =>
  im_istore 3 l st S I fun l st S I =>
  im_ic 0 l st S I fun l st S I =>
  im_istore 4 l st S I fun l st S I =>
  SW mi_X0_chosen 6 d Rq l st S I
theorem rv_X0_chosen_0 {d : Nat} {Rq : SmQ} {l : SmL} {st : List SmV} {S : SmS} {I : SmI} (h : tr_X0_chosen_0 d Rq l st S I) : SW mi_X0_chosen 0 d Rq l st S I :=
  (show SmW mi_X0_chosen 0 d Rq (tr_X0_chosen_0 d Rq) from
  (xv_bipush dX0_chosen_0 rfl (inRd rfl)
  (xv_istore_n dX0_chosen_2 rfl (Nat.le_of_ble_eq_true rfl)
  (xv_iconst dX0_chosen_3 rfl (inRd rfl)
  (xv_istore dX0_chosen_4 (Nat.le_of_ble_eq_true rfl)
  (fun _ _ _ _ h => h)))))) l st S I h
def tr_X0_chosen_6 (d : Nat) (Rq : SmQ) (l : SmL) (st : List SmV) (S : SmS) (I : SmI) : Prop :=
  im_iload 4 l st S I fun l st S I =>
  im_aload 0 l st S I fun l st S I =>
  im_getI 2 10 l st S I fun l st S I =>
  im_cge l st S I (fun l st S I =>
  im_iload 3 l st S I fun l st S I =>
  im_ireturn Rq l st S I) (fun l st S I =>
  im_aload 0 l st S I fun l st S I =>
  im_aload 1 l st S I fun l st S I =>
  im_iload 4 l st S I fun l st S I =>
  im_callS 3 mi_X0_against d (retK mi_X0_chosen 19 22 d Rq l) st S I)
theorem rv_X0_chosen_6 {d : Nat} {Rq : SmQ} {l : SmL} {st : List SmV} {S : SmS} {I : SmI} (h : tr_X0_chosen_6 d Rq l st S I) : SW mi_X0_chosen 6 d Rq l st S I :=
  (show SmW mi_X0_chosen 6 d Rq (tr_X0_chosen_6 d Rq) from
  (xv_iload dX0_chosen_6
  (xv_aload_n dX0_chosen_8 rfl
  (xv_getIN (k := 10) dX0_chosen_9 cl_2 tg_2 in_X1 (Nat.le_of_ble_eq_true rfl) rfl q219
  (xv_cge dX0_chosen_12 rfl
  (xv_iload_n dX0_chosen_52 rfl
  (xv_ireturn dX0_chosen_53 rfl))
  (xv_aload_n dX0_chosen_15 rfl
  (xv_aload_n dX0_chosen_16 rfl
  (xv_iload dX0_chosen_17
  (xv_callS dX0_chosen_19 ok_X0_against (lw_S q621 q622 q104 q623)))))))))) l st S I h
def tr_X0_chosen_22 (d : Nat) (Rq : SmQ) (l : SmL) (st : List SmV) (S : SmS) (I : SmI) : Prop :=
  im_zne l st S I (fun l st S I =>
  im_iinc 4 1 l st S I fun l st S I =>
  SW mi_X0_chosen 6 d Rq l st S I) (fun l st S I =>
  im_iload 3 l st S I fun l st S I =>
  im_ic (-4) l st S I fun l st S I =>
  im_ceq l st S I (fun l st S I =>
  im_iload 4 l st S I fun l st S I =>
  im_istore 3 l st S I fun l st S I =>
  im_iinc 4 1 l st S I fun l st S I =>
  SW mi_X0_chosen 6 d Rq l st S I) (fun l st S I =>
  im_aload 2 l st S I fun l st S I =>
  im_iload 4 l st S I fun l st S I =>
  im_iload 3 l st S I fun l st S I =>
  SW mi_X0_chosen 35 d Rq l st S I))
theorem rv_X0_chosen_22 {d : Nat} {Rq : SmQ} {l : SmL} {st : List SmV} {S : SmS} {I : SmI} (h : tr_X0_chosen_22 d Rq l st S I) : SW mi_X0_chosen 22 d Rq l st S I :=
  (show SmW mi_X0_chosen 22 d Rq (tr_X0_chosen_22 d Rq) from
  (xv_zne dX0_chosen_22 rfl
  (xv_iinc dX0_chosen_46 (Nat.le_of_ble_eq_true rfl)
  (xv_goto dX0_chosen_49 rfl (fun _ _ _ _ h => h)))
  (xv_iload_n dX0_chosen_25 rfl
  (xv_bipush dX0_chosen_26 rfl (inRd rfl)
  (xv_ceq dX0_chosen_28 rfl
  (xv_iload dX0_chosen_43
  (xv_istore_n dX0_chosen_45 rfl (Nat.le_of_ble_eq_true rfl)
  (xv_iinc dX0_chosen_46 (Nat.le_of_ble_eq_true rfl)
  (xv_goto dX0_chosen_49 rfl (fun _ _ _ _ h => h)))))
  (xv_aload_n dX0_chosen_31 rfl
  (xv_iload dX0_chosen_32
  (xv_iload_n dX0_chosen_34 rfl
  (fun _ _ _ _ h => h))))))))) l st S I h
def tr_X0_chosen_40 (d : Nat) (Rq : SmQ) (l : SmL) (st : List SmV) (S : SmS) (I : SmI) : Prop :=
  im_zeq l st S I (fun l st S I =>
  im_iinc 4 1 l st S I fun l st S I =>
  SW mi_X0_chosen 6 d Rq l st S I) (fun l st S I =>
  im_iload 4 l st S I fun l st S I =>
  im_istore 3 l st S I fun l st S I =>
  im_iinc 4 1 l st S I fun l st S I =>
  SW mi_X0_chosen 6 d Rq l st S I)
theorem rv_X0_chosen_40 {d : Nat} {Rq : SmQ} {l : SmL} {st : List SmV} {S : SmS} {I : SmI} (h : tr_X0_chosen_40 d Rq l st S I) : SW mi_X0_chosen 40 d Rq l st S I :=
  (show SmW mi_X0_chosen 40 d Rq (tr_X0_chosen_40 d Rq) from
  (xv_zeq dX0_chosen_40 rfl
  (xv_iinc dX0_chosen_46 (Nat.le_of_ble_eq_true rfl)
  (xv_goto dX0_chosen_49 rfl (fun _ _ _ _ h => h)))
  (xv_iload dX0_chosen_43
  (xv_istore_n dX0_chosen_45 rfl (Nat.le_of_ble_eq_true rfl)
  (xv_iinc dX0_chosen_46 (Nat.le_of_ble_eq_true rfl)
  (xv_goto dX0_chosen_49 rfl (fun _ _ _ _ h => h))))))) l st S I h
def tr_X0_arrives_0 (d : Nat) (Rq : SmQ) (l : SmL) (st : List SmV) (S : SmS) (I : SmI) : Prop :=
  im_ic 0 l st S I fun l st S I =>
  im_istore 2 l st S I fun l st S I =>
  SW mi_X0_arrives 2 d Rq l st S I
theorem rv_X0_arrives_0 {d : Nat} {Rq : SmQ} {l : SmL} {st : List SmV} {S : SmS} {I : SmI} (h : tr_X0_arrives_0 d Rq l st S I) : SW mi_X0_arrives 0 d Rq l st S I :=
  (show SmW mi_X0_arrives 0 d Rq (tr_X0_arrives_0 d Rq) from
  (xv_iconst dX0_arrives_0 rfl (inRd rfl)
  (xv_istore_n dX0_arrives_1 rfl (Nat.le_of_ble_eq_true rfl)
  (fun _ _ _ _ h => h)))) l st S I h
def tr_X0_arrives_2 (d : Nat) (Rq : SmQ) (l : SmL) (st : List SmV) (S : SmS) (I : SmI) : Prop :=
  im_iload 2 l st S I fun l st S I =>
  im_aload 1 l st S I fun l st S I =>
  im_getI 2 10 l st S I fun l st S I =>
  im_cge l st S I (fun l st S I =>
  im_aload 0 l st S I fun l st S I =>
  im_getR 1 6 l st S I fun l st S I =>
  im_callV 0 17 mi_J6_size d (retK mi_X0_arrives 64 67 d Rq l) st S I) (fun l st S I =>
  im_aload 1 l st S I fun l st S I =>
  im_getR 2 8 l st S I fun l st S I =>
  im_iload 2 l st S I fun l st S I =>
  im_ald 102 l st S I fun l st S I =>
  im_zeq l st S I (fun l st S I =>
  im_iinc 2 1 l st S I fun l st S I =>
  SW mi_X0_arrives 2 d Rq l st S I) (fun l st S I =>
  im_aload 1 l st S I fun l st S I =>
  im_getR 2 9 l st S I fun l st S I =>
  im_iload 2 l st S I fun l st S I =>
  im_ald 100 l st S I fun l st S I =>
  im_aload 1 l st S I fun l st S I =>
  im_getI 2 11 l st S I fun l st S I =>
  im_cgt l st S I (fun l st S I =>
  im_iinc 2 1 l st S I fun l st S I =>
  SW mi_X0_arrives 2 d Rq l st S I) (fun l st S I =>
  im_aload 0 l st S I fun l st S I =>
  im_getR 1 6 l st S I fun l st S I =>
  im_new 9 2 l st S I fun l st S I =>
  im_dup l st S I fun l st S I =>
  im_iload 2 l st S I fun l st S I =>
  im_aload 1 l st S I fun l st S I =>
  im_getR 2 9 l st S I fun l st S I =>
  im_iload 2 l st S I fun l st S I =>
  im_ald 100 l st S I fun l st S I =>
  im_callV 2 9 mi_X9_init d (retK mi_X0_arrives 47 50 d Rq l) st S I)))
theorem rv_X0_arrives_2 {d : Nat} {Rq : SmQ} {l : SmL} {st : List SmV} {S : SmS} {I : SmI} (h : tr_X0_arrives_2 d Rq l st S I) : SW mi_X0_arrives 2 d Rq l st S I :=
  (show SmW mi_X0_arrives 2 d Rq (tr_X0_arrives_2 d Rq) from
  (xv_iload_n dX0_arrives_2 rfl
  (xv_aload_n dX0_arrives_3 rfl
  (xv_getIN (k := 10) dX0_arrives_4 cl_2 tg_2 in_X1 (Nat.le_of_ble_eq_true rfl) rfl q219
  (xv_cge dX0_arrives_7 rfl
  (xv_aload_n dX0_arrives_60 rfl
  (xv_getR (k := 6) dX0_arrives_61 cl_1 tg_1 in_X0 (Nat.le_of_ble_eq_true rfl) rfl q1713
  (xv_callV dX0_arrives_64 cl_17 tg_17 ok_J6_size rfl (lw_V q1019 q1020 q1021 q113 q1022))))
  (xv_aload_n dX0_arrives_10 rfl
  (xv_getRN (k := 8) dX0_arrives_11 cl_2 tg_2 in_X1 (Nat.le_of_ble_eq_true rfl) rfl q213
  (xv_iload_n dX0_arrives_14 rfl
  (xv_zald dX0_arrives_15
  (xv_zeq dX0_arrives_16 rfl
  (xv_iinc dX0_arrives_54 (Nat.le_of_ble_eq_true rfl)
  (xv_goto dX0_arrives_57 rfl (fun _ _ _ _ h => h)))
  (xv_aload_n dX0_arrives_19 rfl
  (xv_getRN (k := 9) dX0_arrives_20 cl_2 tg_2 in_X1 (Nat.le_of_ble_eq_true rfl) rfl q215
  (xv_iload_n dX0_arrives_23 rfl
  (xv_iald dX0_arrives_24
  (xv_aload_n dX0_arrives_25 rfl
  (xv_getIN (k := 11) dX0_arrives_26 cl_2 tg_2 in_X1 (Nat.le_of_ble_eq_true rfl) rfl q221
  (xv_cgt dX0_arrives_29 rfl
  (xv_iinc dX0_arrives_54 (Nat.le_of_ble_eq_true rfl)
  (xv_goto dX0_arrives_57 rfl (fun _ _ _ _ h => h)))
  (xv_aload_n dX0_arrives_32 rfl
  (xv_getR (k := 6) dX0_arrives_33 cl_1 tg_1 in_X0 (Nat.le_of_ble_eq_true rfl) rfl q1713
  (xv_new dX0_arrives_36 cl_9 tg_9 in_X9 tyX9_ok q726 q727 q129 df_9
  (xv_dup dX0_arrives_39
  (xv_iload_n dX0_arrives_40 rfl
  (xv_aload_n dX0_arrives_41 rfl
  (xv_getRN (k := 9) dX0_arrives_42 cl_2 tg_2 in_X1 (Nat.le_of_ble_eq_true rfl) rfl q215
  (xv_iload_n dX0_arrives_45 rfl
  (xv_iald dX0_arrives_46
  (xv_callI dX0_arrives_47 tg_9 ok_X9_init rfl rfl q728 q729 q129 q730))))))))))))))))))))))))))) l st S I h
def tr_X0_arrives_50 (d : Nat) (Rq : SmQ) (l : SmL) (st : List SmV) (S : SmS) (I : SmI) : Prop :=
  im_callV 1 17 mi_J6_add d (retK mi_X0_arrives 50 53 d Rq l) st S I
theorem rv_X0_arrives_50 {d : Nat} {Rq : SmQ} {l : SmL} {st : List SmV} {S : SmS} {I : SmI} (h : tr_X0_arrives_50 d Rq l st S I) : SW mi_X0_arrives 50 d Rq l st S I :=
  (show SmW mi_X0_arrives 50 d Rq (tr_X0_arrives_50 d Rq) from
  (xv_callV dX0_arrives_50 cl_17 tg_17 ok_J6_add rfl (lw_V q742 q743 q744 q113 q745))) l st S I h
def tr_X0_arrives_53 (d : Nat) (Rq : SmQ) (l : SmL) (st : List SmV) (S : SmS) (I : SmI) : Prop :=
  im_pop l st S I fun l st S I =>
  im_iinc 2 1 l st S I fun l st S I =>
  SW mi_X0_arrives 2 d Rq l st S I
theorem rv_X0_arrives_53 {d : Nat} {Rq : SmQ} {l : SmL} {st : List SmV} {S : SmS} {I : SmI} (h : tr_X0_arrives_53 d Rq l st S I) : SW mi_X0_arrives 53 d Rq l st S I :=
  (show SmW mi_X0_arrives 53 d Rq (tr_X0_arrives_53 d Rq) from
  (xv_pop dX0_arrives_53
  (xv_iinc dX0_arrives_54 (Nat.le_of_ble_eq_true rfl)
  (xv_goto dX0_arrives_57 rfl (fun _ _ _ _ h => h))))) l st S I h
def tr_X0_arrives_67 (d : Nat) (Rq : SmQ) (l : SmL) (st : List SmV) (S : SmS) (I : SmI) : Prop :=
  im_istore 2 l st S I fun l st S I =>
  SW mi_X0_arrives 68 d Rq l st S I
theorem rv_X0_arrives_67 {d : Nat} {Rq : SmQ} {l : SmL} {st : List SmV} {S : SmS} {I : SmI} (h : tr_X0_arrives_67 d Rq l st S I) : SW mi_X0_arrives 67 d Rq l st S I :=
  (show SmW mi_X0_arrives 67 d Rq (tr_X0_arrives_67 d Rq) from
  (xv_istore_n dX0_arrives_67 rfl (Nat.le_of_ble_eq_true rfl)
  (fun _ _ _ _ h => h))) l st S I h
def tr_X0_arrives_68 (d : Nat) (Rq : SmQ) (l : SmL) (st : List SmV) (S : SmS) (I : SmI) : Prop :=
  im_aload 0 l st S I fun l st S I =>
  im_getR 1 6 l st S I fun l st S I =>
  im_callV 0 17 mi_J6_size d (retK mi_X0_arrives 72 75 d Rq l) st S I
theorem rv_X0_arrives_68 {d : Nat} {Rq : SmQ} {l : SmL} {st : List SmV} {S : SmS} {I : SmI} (h : tr_X0_arrives_68 d Rq l st S I) : SW mi_X0_arrives 68 d Rq l st S I :=
  (show SmW mi_X0_arrives 68 d Rq (tr_X0_arrives_68 d Rq) from
  (xv_aload_n dX0_arrives_68 rfl
  (xv_getR (k := 6) dX0_arrives_69 cl_1 tg_1 in_X0 (Nat.le_of_ble_eq_true rfl) rfl q1713
  (xv_callV dX0_arrives_72 cl_17 tg_17 ok_J6_size rfl (lw_V q1019 q1020 q1021 q113 q1022))))) l st S I h
def tr_X0_arrives_75 (d : Nat) (Rq : SmQ) (l : SmL) (st : List SmV) (S : SmS) (I : SmI) : Prop :=
  im_zle l st S I (fun l st S I =>
  im_iload 2 l st S I fun l st S I =>
  im_ireturn Rq l st S I) (fun l st S I =>
  im_aload 1 l st S I fun l st S I =>
  im_getR 2 8 l st S I fun l st S I =>
  im_aload 0 l st S I fun l st S I =>
  im_getR 1 6 l st S I fun l st S I =>
  im_callV 0 17 mi_J6_poll d (retK mi_X0_arrives 86 89 d Rq l) st S I)
theorem rv_X0_arrives_75 {d : Nat} {Rq : SmQ} {l : SmL} {st : List SmV} {S : SmS} {I : SmI} (h : tr_X0_arrives_75 d Rq l st S I) : SW mi_X0_arrives 75 d Rq l st S I :=
  (show SmW mi_X0_arrives 75 d Rq (tr_X0_arrives_75 d Rq) from
  (xv_zle dX0_arrives_75 rfl
  (xv_iload_n dX0_arrives_100 rfl
  (xv_ireturn dX0_arrives_101 rfl))
  (xv_aload_n dX0_arrives_78 rfl
  (xv_getRN (k := 8) dX0_arrives_79 cl_2 tg_2 in_X1 (Nat.le_of_ble_eq_true rfl) rfl q213
  (xv_aload_n dX0_arrives_82 rfl
  (xv_getR (k := 6) dX0_arrives_83 cl_1 tg_1 in_X0 (Nat.le_of_ble_eq_true rfl) rfl q1713
  (xv_callV dX0_arrives_86 cl_17 tg_17 ok_J6_poll rfl (lw_V q1023 q1024 q1025 q113 q1026)))))))) l st S I h
def tr_X0_arrives_89 (d : Nat) (Rq : SmQ) (l : SmL) (st : List SmV) (S : SmS) (I : SmI) : Prop :=
  im_castO [9] l st S I fun l st S I =>
  im_getI 9 0 l st S I fun l st S I =>
  im_ic 0 l st S I fun l st S I =>
  im_zast l st S I fun l st S I =>
  SW mi_X0_arrives 68 d Rq l st S I
theorem rv_X0_arrives_89 {d : Nat} {Rq : SmQ} {l : SmL} {st : List SmV} {S : SmS} {I : SmI} (h : tr_X0_arrives_89 d Rq l st S I) : SW mi_X0_arrives 89 d Rq l st S I :=
  (show SmW mi_X0_arrives 89 d Rq (tr_X0_arrives_89 d Rq) from
  (xv_castO dX0_arrives_89 q726 (fun t h => by cases List.mem_singleton.mp h; exact ⟨_, _, _, ⟨(Nat.le_of_ble_eq_true rfl), (Nat.le_of_ble_eq_true rfl)⟩, cl_9, Or.inl rfl⟩)
  (xv_getIN (k := 0) dX0_arrives_92 cl_9 tg_9 in_X9 (Nat.le_of_ble_eq_true rfl) rfl q734
  (xv_iconst dX0_arrives_95 rfl (inRd rfl)
  (xv_zast dX0_arrives_96
  (xv_goto dX0_arrives_97 rfl (fun _ _ _ _ h => h))))))) l st S I h
def tr_X0_dreams_0 (d : Nat) (Rq : SmQ) (l : SmL) (st : List SmV) (S : SmS) (I : SmI) : Prop :=
  im_aload 0 l st S I fun l st S I =>
  im_getR 1 7 l st S I fun l st S I =>
  im_aload 0 l st S I fun l st S I =>
  im_getR 1 3 l st S I fun l st S I =>
  im_callV 1 2 mi_X1_takes d (retK mi_X0_dreams 8 11 d Rq l) st S I
theorem rv_X0_dreams_0 {d : Nat} {Rq : SmQ} {l : SmL} {st : List SmV} {S : SmS} {I : SmI} (h : tr_X0_dreams_0 d Rq l st S I) : SW mi_X0_dreams 0 d Rq l st S I :=
  (show SmW mi_X0_dreams 0 d Rq (tr_X0_dreams_0 d Rq) from
  (xv_aload_n dX0_dreams_0 rfl
  (xv_getR (k := 7) dX0_dreams_1 cl_1 tg_1 in_X0 (Nat.le_of_ble_eq_true rfl) rfl q1714
  (xv_aload_n dX0_dreams_4 rfl
  (xv_getR (k := 3) dX0_dreams_5 cl_1 tg_1 in_X0 (Nat.le_of_ble_eq_true rfl) rfl q1710
  (xv_callV dX0_dreams_8 cl_2 tg_2 ok_X1_takes rfl (lw_V q531 q532 q533 q105 q534))))))) l st S I h
def tr_X0_dreams_11 (d : Nat) (Rq : SmQ) (l : SmL) (st : List SmV) (S : SmS) (I : SmI) : Prop :=
  im_aload 0 l st S I fun l st S I =>
  im_aload 0 l st S I fun l st S I =>
  im_getR 1 7 l st S I fun l st S I =>
  im_iload 1 l st S I fun l st S I =>
  im_callV 2 1 mi_X0_beforeBy d (retK mi_X0_dreams 17 20 d Rq l) st S I
theorem rv_X0_dreams_11 {d : Nat} {Rq : SmQ} {l : SmL} {st : List SmV} {S : SmS} {I : SmI} (h : tr_X0_dreams_11 d Rq l st S I) : SW mi_X0_dreams 11 d Rq l st S I :=
  (show SmW mi_X0_dreams 11 d Rq (tr_X0_dreams_11 d Rq) from
  (xv_aload_n dX0_dreams_11 rfl
  (xv_aload_n dX0_dreams_12 rfl
  (xv_getR (k := 7) dX0_dreams_13 cl_1 tg_1 in_X0 (Nat.le_of_ble_eq_true rfl) rfl q1714
  (xv_iload_n dX0_dreams_16 rfl
  (xv_callV dX0_dreams_17 cl_1 tg_1 ok_X0_beforeBy rfl (lw_V q705 q707 qs25 q104 q708))))))) l st S I h
def tr_X0_dreams_20 (d : Nat) (Rq : SmQ) (l : SmL) (st : List SmV) (S : SmS) (I : SmI) : Prop :=
  im_astore 3 l st S I fun l st S I =>
  im_ic 1 l st S I fun l st S I =>
  im_istore 4 l st S I fun l st S I =>
  SW mi_X0_dreams 24 d Rq l st S I
theorem rv_X0_dreams_20 {d : Nat} {Rq : SmQ} {l : SmL} {st : List SmV} {S : SmS} {I : SmI} (h : tr_X0_dreams_20 d Rq l st S I) : SW mi_X0_dreams 20 d Rq l st S I :=
  (show SmW mi_X0_dreams 20 d Rq (tr_X0_dreams_20 d Rq) from
  (xv_astore_n dX0_dreams_20 rfl (Nat.le_of_ble_eq_true rfl)
  (xv_iconst dX0_dreams_21 rfl (inRd rfl)
  (xv_istore dX0_dreams_22 (Nat.le_of_ble_eq_true rfl)
  (fun _ _ _ _ h => h))))) l st S I h
def tr_X0_dreams_24 (d : Nat) (Rq : SmQ) (l : SmL) (st : List SmV) (S : SmS) (I : SmI) : Prop :=
  im_iload 4 l st S I fun l st S I =>
  im_zeq l st S I (fun l st S I =>
  im_ic 0 l st S I fun l st S I =>
  im_istore 5 l st S I fun l st S I =>
  im_ic 0 l st S I fun l st S I =>
  im_istore 6 l st S I fun l st S I =>
  im_ic 0 l st S I fun l st S I =>
  im_istore 7 l st S I fun l st S I =>
  SW mi_X0_dreams 163 d Rq l st S I) (fun l st S I =>
  im_aload 0 l st S I fun l st S I =>
  im_getR 1 7 l st S I fun l st S I =>
  im_aload 0 l st S I fun l st S I =>
  im_getR 1 4 l st S I fun l st S I =>
  im_aload 3 l st S I fun l st S I =>
  im_callS 3 mi_X0_chosen d (retK mi_X0_dreams 38 41 d Rq l) st S I)
theorem rv_X0_dreams_24 {d : Nat} {Rq : SmQ} {l : SmL} {st : List SmV} {S : SmS} {I : SmI} (h : tr_X0_dreams_24 d Rq l st S I) : SW mi_X0_dreams 24 d Rq l st S I :=
  (show SmW mi_X0_dreams 24 d Rq (tr_X0_dreams_24 d Rq) from
  (xv_iload dX0_dreams_24
  (xv_zeq dX0_dreams_26 rfl
  (xv_iconst dX0_dreams_154 rfl (inRd rfl)
  (xv_istore dX0_dreams_155 (Nat.le_of_ble_eq_true rfl)
  (xv_iconst dX0_dreams_157 rfl (inRd rfl)
  (xv_istore dX0_dreams_158 (Nat.le_of_ble_eq_true rfl)
  (xv_iconst dX0_dreams_160 rfl (inRd rfl)
  (xv_istore dX0_dreams_161 (Nat.le_of_ble_eq_true rfl)
  (fun _ _ _ _ h => h)))))))
  (xv_aload_n dX0_dreams_29 rfl
  (xv_getR (k := 7) dX0_dreams_30 cl_1 tg_1 in_X0 (Nat.le_of_ble_eq_true rfl) rfl q1714
  (xv_aload_n dX0_dreams_33 rfl
  (xv_getR (k := 4) dX0_dreams_34 cl_1 tg_1 in_X0 (Nat.le_of_ble_eq_true rfl) rfl q1711
  (xv_aload_n dX0_dreams_37 rfl
  (xv_callS dX0_dreams_38 ok_X0_chosen (lw_S q716 q717 q104 q718)))))))))) l st S I h
def tr_X0_dreams_41 (d : Nat) (Rq : SmQ) (l : SmL) (st : List SmV) (S : SmS) (I : SmI) : Prop :=
  im_istore 5 l st S I fun l st S I =>
  SW mi_X0_dreams 43 d Rq l st S I
theorem rv_X0_dreams_41 {d : Nat} {Rq : SmQ} {l : SmL} {st : List SmV} {S : SmS} {I : SmI} (h : tr_X0_dreams_41 d Rq l st S I) : SW mi_X0_dreams 41 d Rq l st S I :=
  (show SmW mi_X0_dreams 41 d Rq (tr_X0_dreams_41 d Rq) from
  (xv_istore dX0_dreams_41 (Nat.le_of_ble_eq_true rfl)
  (fun _ _ _ _ h => h))) l st S I h
def tr_X0_dreams_43 (d : Nat) (Rq : SmQ) (l : SmL) (st : List SmV) (S : SmS) (I : SmI) : Prop :=
  im_iload 5 l st S I fun l st S I =>
  im_ic (-4) l st S I fun l st S I =>
  im_ceq l st S I (fun l st S I =>
  im_ic 0 l st S I fun l st S I =>
  im_istore 4 l st S I fun l st S I =>
  im_ic 0 l st S I fun l st S I =>
  im_istore 6 l st S I fun l st S I =>
  SW mi_X0_dreams 82 d Rq l st S I) (fun l st S I =>
  im_aload 0 l st S I fun l st S I =>
  im_getR 1 7 l st S I fun l st S I =>
  im_iload 5 l st S I fun l st S I =>
  im_callS 2 mi_X0_goes d (retK mi_X0_dreams 56 59 d Rq l) st S I)
theorem rv_X0_dreams_43 {d : Nat} {Rq : SmQ} {l : SmL} {st : List SmV} {S : SmS} {I : SmI} (h : tr_X0_dreams_43 d Rq l st S I) : SW mi_X0_dreams 43 d Rq l st S I :=
  (show SmW mi_X0_dreams 43 d Rq (tr_X0_dreams_43 d Rq) from
  (xv_iload dX0_dreams_43
  (xv_bipush dX0_dreams_45 rfl (inRd rfl)
  (xv_ceq dX0_dreams_47 rfl
  (xv_iconst dX0_dreams_76 rfl (inRd rfl)
  (xv_istore dX0_dreams_77 (Nat.le_of_ble_eq_true rfl)
  (xv_iconst dX0_dreams_79 rfl (inRd rfl)
  (xv_istore dX0_dreams_80 (Nat.le_of_ble_eq_true rfl)
  (fun _ _ _ _ h => h)))))
  (xv_aload_n dX0_dreams_50 rfl
  (xv_getR (k := 7) dX0_dreams_51 cl_1 tg_1 in_X0 (Nat.le_of_ble_eq_true rfl) rfl q1714
  (xv_iload dX0_dreams_54
  (xv_callS dX0_dreams_56 ok_X0_goes (lw_S q719 q720 q104 q721))))))))) l st S I h
def tr_X0_dreams_59 (d : Nat) (Rq : SmQ) (l : SmL) (st : List SmV) (S : SmS) (I : SmI) : Prop :=
  im_aload 0 l st S I fun l st S I =>
  im_getR 1 7 l st S I fun l st S I =>
  im_aload 0 l st S I fun l st S I =>
  im_getR 1 4 l st S I fun l st S I =>
  im_aload 3 l st S I fun l st S I =>
  im_callS 3 mi_X0_chosen d (retK mi_X0_dreams 68 71 d Rq l) st S I
theorem rv_X0_dreams_59 {d : Nat} {Rq : SmQ} {l : SmL} {st : List SmV} {S : SmS} {I : SmI} (h : tr_X0_dreams_59 d Rq l st S I) : SW mi_X0_dreams 59 d Rq l st S I :=
  (show SmW mi_X0_dreams 59 d Rq (tr_X0_dreams_59 d Rq) from
  (xv_aload_n dX0_dreams_59 rfl
  (xv_getR (k := 7) dX0_dreams_60 cl_1 tg_1 in_X0 (Nat.le_of_ble_eq_true rfl) rfl q1714
  (xv_aload_n dX0_dreams_63 rfl
  (xv_getR (k := 4) dX0_dreams_64 cl_1 tg_1 in_X0 (Nat.le_of_ble_eq_true rfl) rfl q1711
  (xv_aload_n dX0_dreams_67 rfl
  (xv_callS dX0_dreams_68 ok_X0_chosen (lw_S q716 q717 q104 q718)))))))) l st S I h
def tr_X0_dreams_71 (d : Nat) (Rq : SmQ) (l : SmL) (st : List SmV) (S : SmS) (I : SmI) : Prop :=
  im_istore 5 l st S I fun l st S I =>
  SW mi_X0_dreams 43 d Rq l st S I
theorem rv_X0_dreams_71 {d : Nat} {Rq : SmQ} {l : SmL} {st : List SmV} {S : SmS} {I : SmI} (h : tr_X0_dreams_71 d Rq l st S I) : SW mi_X0_dreams 71 d Rq l st S I :=
  (show SmW mi_X0_dreams 71 d Rq (tr_X0_dreams_71 d Rq) from
  (xv_istore dX0_dreams_71 (Nat.le_of_ble_eq_true rfl)
  (xv_goto dX0_dreams_73 rfl (fun _ _ _ _ h => h)))) l st S I h
def tr_X0_dreams_82 (d : Nat) (Rq : SmQ) (l : SmL) (st : List SmV) (S : SmS) (I : SmI) : Prop :=
  im_iload 6 l st S I fun l st S I =>
  im_aload 0 l st S I fun l st S I =>
  im_getR 1 7 l st S I fun l st S I =>
  im_getI 2 10 l st S I fun l st S I =>
  im_cge l st S I (fun l st S I =>
  im_iload 4 l st S I fun l st S I =>
  im_zeq l st S I (fun l st S I =>
  SW mi_X0_dreams 24 d Rq l st S I) (fun l st S I =>
  im_aload 0 l st S I fun l st S I =>
  im_getR 1 7 l st S I fun l st S I =>
  im_dup l st S I fun l st S I =>
  im_getI 2 11 l st S I fun l st S I =>
  im_ic 1 l st S I fun l st S I =>
  im_iadd l st S I fun l st S I =>
  im_putI 2 11 l st S I fun l st S I =>
  im_aload 0 l st S I fun l st S I =>
  im_aload 0 l st S I fun l st S I =>
  im_getR 1 7 l st S I fun l st S I =>
  im_callV 1 1 mi_X0_arrives d (retK mi_X0_dreams 147 150 d Rq l) st S I)) (fun l st S I =>
  im_iload 4 l st S I fun l st S I =>
  im_zne l st S I (fun l st S I =>
  im_ic 1 l st S I fun l st S I =>
  im_istore 4 l st S I fun l st S I =>
  im_iinc 6 1 l st S I fun l st S I =>
  SW mi_X0_dreams 82 d Rq l st S I) (fun l st S I =>
  im_aload 0 l st S I fun l st S I =>
  im_getR 1 7 l st S I fun l st S I =>
  im_iload 6 l st S I fun l st S I =>
  im_p_X1_isDone d l st S I fun l st S I =>
  im_zne l st S I (fun l st S I =>
  im_ic 0 l st S I fun l st S I =>
  im_istore 4 l st S I fun l st S I =>
  im_iinc 6 1 l st S I fun l st S I =>
  SW mi_X0_dreams 82 d Rq l st S I) (fun l st S I =>
  im_ic 1 l st S I fun l st S I =>
  im_istore 4 l st S I fun l st S I =>
  im_iinc 6 1 l st S I fun l st S I =>
  SW mi_X0_dreams 82 d Rq l st S I)))
theorem rv_X0_dreams_82 {d : Nat} {Rq : SmQ} {l : SmL} {st : List SmV} {S : SmS} {I : SmI} (h : tr_X0_dreams_82 d Rq l st S I) : SW mi_X0_dreams 82 d Rq l st S I :=
  (show SmW mi_X0_dreams 82 d Rq (tr_X0_dreams_82 d Rq) from
  (xv_iload dX0_dreams_82
  (xv_aload_n dX0_dreams_84 rfl
  (xv_getR (k := 7) dX0_dreams_85 cl_1 tg_1 in_X0 (Nat.le_of_ble_eq_true rfl) rfl q1714
  (xv_getIN (k := 10) dX0_dreams_88 cl_2 tg_2 in_X1 (Nat.le_of_ble_eq_true rfl) rfl q219
  (xv_cge dX0_dreams_91 rfl
  (xv_iload dX0_dreams_124
  (xv_zeq dX0_dreams_126 rfl
  (xv_goto dX0_dreams_151 rfl (fun _ _ _ _ h => h))
  (xv_aload_n dX0_dreams_129 rfl
  (xv_getR (k := 7) dX0_dreams_130 cl_1 tg_1 in_X0 (Nat.le_of_ble_eq_true rfl) rfl q1714
  (xv_dup dX0_dreams_133
  (xv_getIN (k := 11) dX0_dreams_134 cl_2 tg_2 in_X1 (Nat.le_of_ble_eq_true rfl) rfl q221
  (xv_iconst dX0_dreams_137 rfl (inRd rfl)
  (xv_iadd dX0_dreams_138
  (xv_putI (k := 11) dX0_dreams_139 cl_2 tg_2 in_X1 tyX1_ok nmX1 (Nat.le_of_ble_eq_true rfl) rfl ⟨Or.inr ⟨rfl, _, q221⟩, Or.inl rfl⟩
  (xv_aload_n dX0_dreams_142 rfl
  (xv_aload_n dX0_dreams_143 rfl
  (xv_getR (k := 7) dX0_dreams_144 cl_1 tg_1 in_X0 (Nat.le_of_ble_eq_true rfl) rfl q1714
  (xv_callV dX0_dreams_147 cl_1 tg_1 ok_X0_arrives rfl (lw_V q722 q724 qs27 q104 q725))))))))))))))
  (xv_iload dX0_dreams_94
  (xv_zne dX0_dreams_96 rfl
  (xv_iconst dX0_dreams_111 rfl (inRd rfl)
  (xv_goto dX0_dreams_112 rfl (xv_istore dX0_dreams_116 (Nat.le_of_ble_eq_true rfl)
  (xv_iinc dX0_dreams_118 (Nat.le_of_ble_eq_true rfl)
  (xv_goto dX0_dreams_121 rfl (fun _ _ _ _ h => h))))))
  (xv_aload_n dX0_dreams_99 rfl
  (xv_getR (k := 7) dX0_dreams_100 cl_1 tg_1 in_X0 (Nat.le_of_ble_eq_true rfl) rfl q1714
  (xv_iload dX0_dreams_103
  (xv_p_X1_isDone dX0_dreams_105 (lw_V q580 q581 q582 q105 q583)
  (xv_zne dX0_dreams_108 rfl
  (xv_iconst dX0_dreams_115 rfl (inRd rfl)
  (xv_istore dX0_dreams_116 (Nat.le_of_ble_eq_true rfl)
  (xv_iinc dX0_dreams_118 (Nat.le_of_ble_eq_true rfl)
  (xv_goto dX0_dreams_121 rfl (fun _ _ _ _ h => h)))))
  (xv_iconst dX0_dreams_111 rfl (inRd rfl)
  (xv_goto dX0_dreams_112 rfl (xv_istore dX0_dreams_116 (Nat.le_of_ble_eq_true rfl)
  (xv_iinc dX0_dreams_118 (Nat.le_of_ble_eq_true rfl)
  (xv_goto dX0_dreams_121 rfl (fun _ _ _ _ h => h))))))))))))))))))) l st S I h
def tr_X0_dreams_150 (d : Nat) (Rq : SmQ) (l : SmL) (st : List SmV) (S : SmS) (I : SmI) : Prop :=
  im_pop l st S I fun l st S I =>
  SW mi_X0_dreams 24 d Rq l st S I
theorem rv_X0_dreams_150 {d : Nat} {Rq : SmQ} {l : SmL} {st : List SmV} {S : SmS} {I : SmI} (h : tr_X0_dreams_150 d Rq l st S I) : SW mi_X0_dreams 150 d Rq l st S I :=
  (show SmW mi_X0_dreams 150 d Rq (tr_X0_dreams_150 d Rq) from
  (xv_pop dX0_dreams_150
  (xv_goto dX0_dreams_151 rfl (fun _ _ _ _ h => h)))) l st S I h
def tr_X0_dreams_163 (d : Nat) (Rq : SmQ) (l : SmL) (st : List SmV) (S : SmS) (I : SmI) : Prop :=
  im_iload 7 l st S I fun l st S I =>
  im_aload 0 l st S I fun l st S I =>
  im_getR 1 7 l st S I fun l st S I =>
  im_getI 2 10 l st S I fun l st S I =>
  im_cge l st S I (fun l st S I =>
  im_iload 2 l st S I fun l st S I =>
  im_zne l st S I (fun l st S I =>
  im_iload 6 l st S I fun l st S I =>
  im_ireturn Rq l st S I) (fun l st S I =>
  im_iload 5 l st S I fun l st S I =>
  im_ireturn Rq l st S I)) (fun l st S I =>
  im_iload 5 l st S I fun l st S I =>
  im_aload 0 l st S I fun l st S I =>
  im_getR 1 7 l st S I fun l st S I =>
  im_getR 2 9 l st S I fun l st S I =>
  im_iload 7 l st S I fun l st S I =>
  im_ald 100 l st S I fun l st S I =>
  im_max l st S I fun l st S I =>
  im_istore 5 l st S I fun l st S I =>
  im_iload 6 l st S I fun l st S I =>
  im_aload 0 l st S I fun l st S I =>
  im_getR 1 7 l st S I fun l st S I =>
  im_getR 2 9 l st S I fun l st S I =>
  im_iload 7 l st S I fun l st S I =>
  im_ald 100 l st S I fun l st S I =>
  im_iadd l st S I fun l st S I =>
  im_istore 6 l st S I fun l st S I =>
  im_iinc 7 1 l st S I fun l st S I =>
  SW mi_X0_dreams 163 d Rq l st S I)
theorem rv_X0_dreams_163 {d : Nat} {Rq : SmQ} {l : SmL} {st : List SmV} {S : SmS} {I : SmI} (h : tr_X0_dreams_163 d Rq l st S I) : SW mi_X0_dreams 163 d Rq l st S I :=
  (show SmW mi_X0_dreams 163 d Rq (tr_X0_dreams_163 d Rq) from
  (xv_iload dX0_dreams_163
  (xv_aload_n dX0_dreams_165 rfl
  (xv_getR (k := 7) dX0_dreams_166 cl_1 tg_1 in_X0 (Nat.le_of_ble_eq_true rfl) rfl q1714
  (xv_getIN (k := 10) dX0_dreams_169 cl_2 tg_2 in_X1 (Nat.le_of_ble_eq_true rfl) rfl q219
  (xv_cge dX0_dreams_172 rfl
  (xv_iload_n dX0_dreams_213 rfl
  (xv_zne dX0_dreams_214 rfl
  (xv_iload dX0_dreams_222
  (xv_ireturn dX0_dreams_224 rfl))
  (xv_iload dX0_dreams_217
  (xv_goto dX0_dreams_219 rfl (xv_ireturn dX0_dreams_224 rfl)))))
  (xv_iload dX0_dreams_175
  (xv_aload_n dX0_dreams_177 rfl
  (xv_getR (k := 7) dX0_dreams_178 cl_1 tg_1 in_X0 (Nat.le_of_ble_eq_true rfl) rfl q1714
  (xv_getRN (k := 9) dX0_dreams_181 cl_2 tg_2 in_X1 (Nat.le_of_ble_eq_true rfl) rfl q215
  (xv_iload dX0_dreams_184
  (xv_iald dX0_dreams_186
  (xv_max dX0_dreams_187 q1033
  (xv_istore dX0_dreams_190 (Nat.le_of_ble_eq_true rfl)
  (xv_iload dX0_dreams_192
  (xv_aload_n dX0_dreams_194 rfl
  (xv_getR (k := 7) dX0_dreams_195 cl_1 tg_1 in_X0 (Nat.le_of_ble_eq_true rfl) rfl q1714
  (xv_getRN (k := 9) dX0_dreams_198 cl_2 tg_2 in_X1 (Nat.le_of_ble_eq_true rfl) rfl q215
  (xv_iload dX0_dreams_201
  (xv_iald dX0_dreams_203
  (xv_iadd dX0_dreams_204
  (xv_istore dX0_dreams_205 (Nat.le_of_ble_eq_true rfl)
  (xv_iinc dX0_dreams_207 (Nat.le_of_ble_eq_true rfl)
  (xv_goto dX0_dreams_210 rfl (fun _ _ _ _ h => h))))))))))))))))))))))))) l st S I h
def tr_X0_plan_0 (d : Nat) (Rq : SmQ) (l : SmL) (st : List SmV) (S : SmS) (I : SmI) : Prop :=
  im_iload 1 l st S I fun l st S I =>
  im_i2l l st S I fun l st S I =>
  im_lc 0 l st S I fun l st S I =>
  im_lc 2 l st S I fun l st S I =>
  im_p_X0_isIn d l st S I fun l st S I =>
  im_zeq l st S I (fun l st S I =>
  im_ic (-1) l st S I fun l st S I =>
  im_ireturn Rq l st S I) (fun l st S I =>
  im_iload 2 l st S I fun l st S I =>
  im_i2l l st S I fun l st S I =>
  im_lc 0 l st S I fun l st S I =>
  im_lc 1 l st S I fun l st S I =>
  im_p_X0_isIn d l st S I fun l st S I =>
  im_zeq l st S I (fun l st S I =>
  im_ic (-1) l st S I fun l st S I =>
  im_ireturn Rq l st S I) (fun l st S I =>
  im_aload 0 l st S I fun l st S I =>
  im_iload 1 l st S I fun l st S I =>
  im_iload 2 l st S I fun l st S I =>
  im_callV 2 1 mi_X0_dreams d (retK mi_X0_plan 25 28 d Rq l) st S I))
theorem rv_X0_plan_0 {d : Nat} {Rq : SmQ} {l : SmL} {st : List SmV} {S : SmS} {I : SmI} (h : tr_X0_plan_0 d Rq l st S I) : SW mi_X0_plan 0 d Rq l st S I :=
  (show SmW mi_X0_plan 0 d Rq (tr_X0_plan_0 d Rq) from
  (xv_iload_n dX0_plan_0 rfl
  (xv_i2l dX0_plan_1
  (xv_lconst dX0_plan_2 rfl (inR64d rfl)
  (xv_ldc2 dX0_plan_3 q700 rfl (inR64d rfl)
  (xv_p_X0_isIn dX0_plan_6 (lw_S q156 q157 q104 q158)
  (xv_zeq dX0_plan_9 rfl
  (xv_iconst dX0_plan_31 rfl (inRd rfl)
  (xv_ireturn dX0_plan_32 rfl))
  (xv_iload_n dX0_plan_12 rfl
  (xv_i2l dX0_plan_13
  (xv_lconst dX0_plan_14 rfl (inR64d rfl)
  (xv_lconst dX0_plan_15 rfl (inR64d rfl)
  (xv_p_X0_isIn dX0_plan_16 (lw_S q156 q157 q104 q158)
  (xv_zeq dX0_plan_19 rfl
  (xv_iconst dX0_plan_31 rfl (inRd rfl)
  (xv_ireturn dX0_plan_32 rfl))
  (xv_aload_n dX0_plan_22 rfl
  (xv_iload_n dX0_plan_23 rfl
  (xv_iload_n dX0_plan_24 rfl
  (xv_callV dX0_plan_25 cl_1 tg_1 ok_X0_dreams rfl (lw_V q701 q703 qs24 q104 q704)))))))))))))))))) l st S I h
def tr_X0_plan_28 (d : Nat) (Rq : SmQ) (l : SmL) (st : List SmV) (S : SmS) (I : SmI) : Prop :=
  im_ireturn Rq l st S I
theorem rv_X0_plan_28 {d : Nat} {Rq : SmQ} {l : SmL} {st : List SmV} {S : SmS} {I : SmI} (h : tr_X0_plan_28 d Rq l st S I) : SW mi_X0_plan 28 d Rq l st S I :=
  (show SmW mi_X0_plan 28 d Rq (tr_X0_plan_28 d Rq) from
  (xv_goto dX0_plan_28 rfl (xv_ireturn dX0_plan_32 rfl))) l st S I h
def tr_X0_best_0 (d : Nat) (Rq : SmQ) (l : SmL) (st : List SmV) (S : SmS) (I : SmI) : Prop :=
  im_ic (-4) l st S I fun l st S I =>
  im_istore 1 l st S I fun l st S I =>
  im_ic 0 l st S I fun l st S I =>
  im_istore 2 l st S I fun l st S I =>
  im_ic 0 l st S I fun l st S I =>
  im_istore 3 l st S I fun l st S I =>
  SW mi_X0_best 7 d Rq l st S I
theorem rv_X0_best_0 {d : Nat} {Rq : SmQ} {l : SmL} {st : List SmV} {S : SmS} {I : SmI} (h : tr_X0_best_0 d Rq l st S I) : SW mi_X0_best 0 d Rq l st S I :=
  (show SmW mi_X0_best 0 d Rq (tr_X0_best_0 d Rq) from
  (xv_bipush dX0_best_0 rfl (inRd rfl)
  (xv_istore_n dX0_best_2 rfl (Nat.le_of_ble_eq_true rfl)
  (xv_iconst dX0_best_3 rfl (inRd rfl)
  (xv_istore_n dX0_best_4 rfl (Nat.le_of_ble_eq_true rfl)
  (xv_iconst dX0_best_5 rfl (inRd rfl)
  (xv_istore_n dX0_best_6 rfl (Nat.le_of_ble_eq_true rfl)
  (fun _ _ _ _ h => h)))))))) l st S I h
def tr_X0_best_7 (d : Nat) (Rq : SmQ) (l : SmL) (st : List SmV) (S : SmS) (I : SmI) : Prop :=
  im_iload 3 l st S I fun l st S I =>
  im_ic 3 l st S I fun l st S I =>
  im_cge l st S I (fun l st S I =>
  im_iload 1 l st S I fun l st S I =>
  im_ireturn Rq l st S I) (fun l st S I =>
  im_aload 0 l st S I fun l st S I =>
  im_getR 1 3 l st S I fun l st S I =>
  im_getI 2 10 l st S I fun l st S I =>
  im_zle l st S I (fun l st S I =>
  im_iload 1 l st S I fun l st S I =>
  im_ireturn Rq l st S I) (fun l st S I =>
  im_aload 0 l st S I fun l st S I =>
  im_iload 3 l st S I fun l st S I =>
  im_ic 1 l st S I fun l st S I =>
  im_callV 2 1 mi_X0_dreams d (retK mi_X0_best 25 28 d Rq l) st S I))
theorem rv_X0_best_7 {d : Nat} {Rq : SmQ} {l : SmL} {st : List SmV} {S : SmS} {I : SmI} (h : tr_X0_best_7 d Rq l st S I) : SW mi_X0_best 7 d Rq l st S I :=
  (show SmW mi_X0_best 7 d Rq (tr_X0_best_7 d Rq) from
  (xv_iload_n dX0_best_7 rfl
  (xv_iconst dX0_best_8 rfl (inRd rfl)
  (xv_cge dX0_best_9 rfl
  (xv_iload_n dX0_best_70 rfl
  (xv_ireturn dX0_best_71 rfl))
  (xv_aload_n dX0_best_12 rfl
  (xv_getR (k := 3) dX0_best_13 cl_1 tg_1 in_X0 (Nat.le_of_ble_eq_true rfl) rfl q1710
  (xv_getIN (k := 10) dX0_best_16 cl_2 tg_2 in_X1 (Nat.le_of_ble_eq_true rfl) rfl q219
  (xv_zle dX0_best_19 rfl
  (xv_iload_n dX0_best_70 rfl
  (xv_ireturn dX0_best_71 rfl))
  (xv_aload_n dX0_best_22 rfl
  (xv_iload_n dX0_best_23 rfl
  (xv_iconst dX0_best_24 rfl (inRd rfl)
  (xv_callV dX0_best_25 cl_1 tg_1 ok_X0_dreams rfl (lw_V q701 q703 qs24 q104 q704))))))))))))) l st S I h
def tr_X0_best_28 (d : Nat) (Rq : SmQ) (l : SmL) (st : List SmV) (S : SmS) (I : SmI) : Prop :=
  im_istore 4 l st S I fun l st S I =>
  im_iload 1 l st S I fun l st S I =>
  im_ic (-4) l st S I fun l st S I =>
  im_ceq l st S I (fun l st S I =>
  im_iload 3 l st S I fun l st S I =>
  SW mi_X0_best 47 d Rq l st S I) (fun l st S I =>
  im_iload 4 l st S I fun l st S I =>
  im_iload 2 l st S I fun l st S I =>
  im_cge l st S I (fun l st S I =>
  im_iload 1 l st S I fun l st S I =>
  SW mi_X0_best 47 d Rq l st S I) (fun l st S I =>
  im_iload 3 l st S I fun l st S I =>
  SW mi_X0_best 47 d Rq l st S I))
theorem rv_X0_best_28 {d : Nat} {Rq : SmQ} {l : SmL} {st : List SmV} {S : SmS} {I : SmI} (h : tr_X0_best_28 d Rq l st S I) : SW mi_X0_best 28 d Rq l st S I :=
  (show SmW mi_X0_best 28 d Rq (tr_X0_best_28 d Rq) from
  (xv_istore dX0_best_28 (Nat.le_of_ble_eq_true rfl)
  (xv_iload_n dX0_best_30 rfl
  (xv_bipush dX0_best_31 rfl (inRd rfl)
  (xv_ceq dX0_best_33 rfl
  (xv_iload_n dX0_best_42 rfl
  (xv_goto dX0_best_43 rfl (fun _ _ _ _ h => h)))
  (xv_iload dX0_best_36
  (xv_iload_n dX0_best_38 rfl
  (xv_cge dX0_best_39 rfl
  (xv_iload_n dX0_best_46 rfl
  (fun _ _ _ _ h => h))
  (xv_iload_n dX0_best_42 rfl
  (xv_goto dX0_best_43 rfl (fun _ _ _ _ h => h))))))))))) l st S I h
def tr_X0_best_47 (d : Nat) (Rq : SmQ) (l : SmL) (st : List SmV) (S : SmS) (I : SmI) : Prop :=
  im_istore 1 l st S I fun l st S I =>
  im_iload 3 l st S I fun l st S I =>
  im_zne l st S I (fun l st S I =>
  im_iload 2 l st S I fun l st S I =>
  im_iload 4 l st S I fun l st S I =>
  im_min l st S I fun l st S I =>
  im_istore 2 l st S I fun l st S I =>
  im_iinc 3 1 l st S I fun l st S I =>
  SW mi_X0_best 7 d Rq l st S I) (fun l st S I =>
  im_iload 4 l st S I fun l st S I =>
  im_istore 2 l st S I fun l st S I =>
  im_iinc 3 1 l st S I fun l st S I =>
  SW mi_X0_best 7 d Rq l st S I)
theorem rv_X0_best_47 {d : Nat} {Rq : SmQ} {l : SmL} {st : List SmV} {S : SmS} {I : SmI} (h : tr_X0_best_47 d Rq l st S I) : SW mi_X0_best 47 d Rq l st S I :=
  (show SmW mi_X0_best 47 d Rq (tr_X0_best_47 d Rq) from
  (xv_istore_n dX0_best_47 rfl (Nat.le_of_ble_eq_true rfl)
  (xv_iload_n dX0_best_48 rfl
  (xv_zne dX0_best_49 rfl
  (xv_iload_n dX0_best_57 rfl
  (xv_iload dX0_best_58
  (xv_min dX0_best_60 q1038
  (xv_istore_n dX0_best_63 rfl (Nat.le_of_ble_eq_true rfl)
  (xv_iinc dX0_best_64 (Nat.le_of_ble_eq_true rfl)
  (xv_goto dX0_best_67 rfl (fun _ _ _ _ h => h)))))))
  (xv_iload dX0_best_52
  (xv_goto dX0_best_54 rfl (xv_istore_n dX0_best_63 rfl (Nat.le_of_ble_eq_true rfl)
  (xv_iinc dX0_best_64 (Nat.le_of_ble_eq_true rfl)
  (xv_goto dX0_best_67 rfl (fun _ _ _ _ h => h)))))))))) l st S I h
def tr_X0_lets_0 (d : Nat) (Rq : SmQ) (l : SmL) (st : List SmV) (S : SmS) (I : SmI) : Prop :=
  im_aload 0 l st S I fun l st S I =>
  im_getR 1 5 l st S I fun l st S I =>
  im_new 8 3 l st S I fun l st S I =>
  im_dup l st S I fun l st S I =>
  im_aload 0 l st S I fun l st S I =>
  im_getR 1 3 l st S I fun l st S I =>
  im_getI 2 11 l st S I fun l st S I =>
  im_iload 1 l st S I fun l st S I =>
  im_aload 0 l st S I fun l st S I =>
  im_getR 1 3 l st S I fun l st S I =>
  im_getR 2 7 l st S I fun l st S I =>
  im_iload 1 l st S I fun l st S I =>
  im_ald 100 l st S I fun l st S I =>
  im_callV 3 8 mi_X10_init d (retK mi_X0_lets 25 28 d Rq l) st S I
theorem rv_X0_lets_0 {d : Nat} {Rq : SmQ} {l : SmL} {st : List SmV} {S : SmS} {I : SmI} (h : tr_X0_lets_0 d Rq l st S I) : SW mi_X0_lets 0 d Rq l st S I :=
  (show SmW mi_X0_lets 0 d Rq (tr_X0_lets_0 d Rq) from
  (xv_aload_n dX0_lets_0 rfl
  (xv_getR (k := 5) dX0_lets_1 cl_1 tg_1 in_X0 (Nat.le_of_ble_eq_true rfl) rfl q1712
  (xv_new dX0_lets_4 cl_8 tg_8 in_X10 tyX10_ok q1047 q1048 q138 df_8
  (xv_dup dX0_lets_7
  (xv_aload_n dX0_lets_8 rfl
  (xv_getR (k := 3) dX0_lets_9 cl_1 tg_1 in_X0 (Nat.le_of_ble_eq_true rfl) rfl q1710
  (xv_getIN (k := 11) dX0_lets_12 cl_2 tg_2 in_X1 (Nat.le_of_ble_eq_true rfl) rfl q221
  (xv_iload_n dX0_lets_15 rfl
  (xv_aload_n dX0_lets_16 rfl
  (xv_getR (k := 3) dX0_lets_17 cl_1 tg_1 in_X0 (Nat.le_of_ble_eq_true rfl) rfl q1710
  (xv_getRN (k := 7) dX0_lets_20 cl_2 tg_2 in_X1 (Nat.le_of_ble_eq_true rfl) rfl q211
  (xv_iload_n dX0_lets_23 rfl
  (xv_iald dX0_lets_24
  (xv_callI dX0_lets_25 tg_8 ok_X10_init rfl rfl q1049 q1050 q138 q1051))))))))))))))) l st S I h
def tr_X0_lets_28 (d : Nat) (Rq : SmQ) (l : SmL) (st : List SmV) (S : SmS) (I : SmI) : Prop :=
  im_callV 1 12 mi_J2_add d (retK mi_X0_lets 28 31 d Rq l) st S I
theorem rv_X0_lets_28 {d : Nat} {Rq : SmQ} {l : SmL} {st : List SmV} {S : SmS} {I : SmI} (h : tr_X0_lets_28 d Rq l st S I) : SW mi_X0_lets 28 d Rq l st S I :=
  (show SmW mi_X0_lets 28 d Rq (tr_X0_lets_28 d Rq) from
  (xv_callV dX0_lets_28 cl_12 tg_12 ok_J2_add rfl (lw_V q1066 q1067 q1068 q109 q1069))) l st S I h
def tr_X0_lets_31 (d : Nat) (Rq : SmQ) (l : SmL) (st : List SmV) (S : SmS) (I : SmI) : Prop :=
  im_pop l st S I fun l st S I =>
  im_aload 0 l st S I fun l st S I =>
  im_getR 1 5 l st S I fun l st S I =>
  im_callV 0 12 mi_J2_size d (retK mi_X0_lets 36 39 d Rq l) st S I
theorem rv_X0_lets_31 {d : Nat} {Rq : SmQ} {l : SmL} {st : List SmV} {S : SmS} {I : SmI} (h : tr_X0_lets_31 d Rq l st S I) : SW mi_X0_lets 31 d Rq l st S I :=
  (show SmW mi_X0_lets 31 d Rq (tr_X0_lets_31 d Rq) from
  (xv_pop dX0_lets_31
  (xv_aload_n dX0_lets_32 rfl
  (xv_getR (k := 5) dX0_lets_33 cl_1 tg_1 in_X0 (Nat.le_of_ble_eq_true rfl) rfl q1712
  (xv_callV dX0_lets_36 cl_12 tg_12 ok_J2_size rfl (lw_V q584 q585 q586 q109 q587)))))) l st S I h
def tr_X0_lets_39 (d : Nat) (Rq : SmQ) (l : SmL) (st : List SmV) (S : SmS) (I : SmI) : Prop :=
  im_ic 60 l st S I fun l st S I =>
  im_cle l st S I (fun l st S I =>
  im_aload 0 l st S I fun l st S I =>
  im_getR 1 3 l st S I fun l st S I =>
  im_iload 1 l st S I fun l st S I =>
  im_callS 2 mi_X0_goes d (retK mi_X0_lets 57 60 d Rq l) st S I) (fun l st S I =>
  im_aload 0 l st S I fun l st S I =>
  im_getR 1 5 l st S I fun l st S I =>
  im_callV 0 12 mi_J2_pollFirst d (retK mi_X0_lets 48 51 d Rq l) st S I)
theorem rv_X0_lets_39 {d : Nat} {Rq : SmQ} {l : SmL} {st : List SmV} {S : SmS} {I : SmI} (h : tr_X0_lets_39 d Rq l st S I) : SW mi_X0_lets 39 d Rq l st S I :=
  (show SmW mi_X0_lets 39 d Rq (tr_X0_lets_39 d Rq) from
  (xv_bipush dX0_lets_39 rfl (inRd rfl)
  (xv_cle dX0_lets_41 rfl
  (xv_aload_n dX0_lets_52 rfl
  (xv_getR (k := 3) dX0_lets_53 cl_1 tg_1 in_X0 (Nat.le_of_ble_eq_true rfl) rfl q1710
  (xv_iload_n dX0_lets_56 rfl
  (xv_callS dX0_lets_57 ok_X0_goes (lw_S q719 q720 q104 q721)))))
  (xv_aload_n dX0_lets_44 rfl
  (xv_getR (k := 5) dX0_lets_45 cl_1 tg_1 in_X0 (Nat.le_of_ble_eq_true rfl) rfl q1712
  (xv_callV dX0_lets_48 cl_12 tg_12 ok_J2_pollFirst rfl (lw_V q1164 q1165 q1166 q109 q1167))))))) l st S I h
def tr_X0_lets_51 (d : Nat) (Rq : SmQ) (l : SmL) (st : List SmV) (S : SmS) (I : SmI) : Prop :=
  im_pop l st S I fun l st S I =>
  im_aload 0 l st S I fun l st S I =>
  im_getR 1 3 l st S I fun l st S I =>
  im_iload 1 l st S I fun l st S I =>
  im_callS 2 mi_X0_goes d (retK mi_X0_lets 57 60 d Rq l) st S I
theorem rv_X0_lets_51 {d : Nat} {Rq : SmQ} {l : SmL} {st : List SmV} {S : SmS} {I : SmI} (h : tr_X0_lets_51 d Rq l st S I) : SW mi_X0_lets 51 d Rq l st S I :=
  (show SmW mi_X0_lets 51 d Rq (tr_X0_lets_51 d Rq) from
  (xv_pop dX0_lets_51
  (xv_aload_n dX0_lets_52 rfl
  (xv_getR (k := 3) dX0_lets_53 cl_1 tg_1 in_X0 (Nat.le_of_ble_eq_true rfl) rfl q1710
  (xv_iload_n dX0_lets_56 rfl
  (xv_callS dX0_lets_57 ok_X0_goes (lw_S q719 q720 q104 q721))))))) l st S I h
def tr_X0_lets_60 (d : Nat) (Rq : SmQ) (l : SmL) (st : List SmV) (S : SmS) (I : SmI) : Prop :=
  im_return Rq l st S I
theorem rv_X0_lets_60 {d : Nat} {Rq : SmQ} {l : SmL} {st : List SmV} {S : SmS} {I : SmI} (h : tr_X0_lets_60 d Rq l st S I) : SW mi_X0_lets 60 d Rq l st S I :=
  (show SmW mi_X0_lets 60 d Rq (tr_X0_lets_60 d Rq) from
  (xv_return dX0_lets_60 rfl)) l st S I h
def tr_X0_let_0 (d : Nat) (Rq : SmQ) (l : SmL) (st : List SmV) (S : SmS) (I : SmI) : Prop :=
  im_aload 0 l st S I fun l st S I =>
  im_iload 1 l st S I fun l st S I =>
  im_p_X0_isTrain d l st S I fun l st S I =>
  im_zne l st S I (fun l st S I =>
  im_aload 0 l st S I fun l st S I =>
  im_getR 1 3 l st S I fun l st S I =>
  im_aload 0 l st S I fun l st S I =>
  im_getR 1 4 l st S I fun l st S I =>
  im_iload 1 l st S I fun l st S I =>
  im_callS 3 mi_X0_against d (retK mi_X0_let 19 22 d Rq l) st S I) (fun l st S I =>
  im_ic (-1) l st S I fun l st S I =>
  im_ireturn Rq l st S I)
theorem rv_X0_let_0 {d : Nat} {Rq : SmQ} {l : SmL} {st : List SmV} {S : SmS} {I : SmI} (h : tr_X0_let_0 d Rq l st S I) : SW mi_X0_let 0 d Rq l st S I :=
  (show SmW mi_X0_let 0 d Rq (tr_X0_let_0 d Rq) from
  (xv_aload_n dX0_let_0 rfl
  (xv_iload_n dX0_let_1 rfl
  (xv_p_X0_isTrain dX0_let_2 (lw_V q652 q654 qs21 q104 q655)
  (xv_zne dX0_let_5 rfl
  (xv_aload_n dX0_let_10 rfl
  (xv_getR (k := 3) dX0_let_11 cl_1 tg_1 in_X0 (Nat.le_of_ble_eq_true rfl) rfl q1710
  (xv_aload_n dX0_let_14 rfl
  (xv_getR (k := 4) dX0_let_15 cl_1 tg_1 in_X0 (Nat.le_of_ble_eq_true rfl) rfl q1711
  (xv_iload_n dX0_let_18 rfl
  (xv_callS dX0_let_19 ok_X0_against (lw_S q621 q622 q104 q623)))))))
  (xv_iconst dX0_let_8 rfl (inRd rfl)
  (xv_ireturn dX0_let_9 rfl))))))) l st S I h
def tr_X0_let_22 (d : Nat) (Rq : SmQ) (l : SmL) (st : List SmV) (S : SmS) (I : SmI) : Prop :=
  im_zeq l st S I (fun l st S I =>
  im_aload 0 l st S I fun l st S I =>
  im_iload 1 l st S I fun l st S I =>
  im_callV 1 1 mi_X0_lets d (retK mi_X0_let 30 33 d Rq l) st S I) (fun l st S I =>
  im_ic (-2) l st S I fun l st S I =>
  im_ireturn Rq l st S I)
theorem rv_X0_let_22 {d : Nat} {Rq : SmQ} {l : SmL} {st : List SmV} {S : SmS} {I : SmI} (h : tr_X0_let_22 d Rq l st S I) : SW mi_X0_let 22 d Rq l st S I :=
  (show SmW mi_X0_let 22 d Rq (tr_X0_let_22 d Rq) from
  (xv_zeq dX0_let_22 rfl
  (xv_aload_n dX0_let_28 rfl
  (xv_iload_n dX0_let_29 rfl
  (xv_callV dX0_let_30 cl_1 tg_1 ok_X0_lets rfl (lw_V q1043 q1045 qs30 q104 q1046))))
  (xv_bipush dX0_let_25 rfl (inRd rfl)
  (xv_ireturn dX0_let_27 rfl)))) l st S I h
def tr_X0_let_33 (d : Nat) (Rq : SmQ) (l : SmL) (st : List SmV) (S : SmS) (I : SmI) : Prop :=
  im_aload 0 l st S I fun l st S I =>
  im_getR 1 3 l st S I fun l st S I =>
  im_getR 2 9 l st S I fun l st S I =>
  im_iload 1 l st S I fun l st S I =>
  im_ald 100 l st S I fun l st S I =>
  im_ireturn Rq l st S I
theorem rv_X0_let_33 {d : Nat} {Rq : SmQ} {l : SmL} {st : List SmV} {S : SmS} {I : SmI} (h : tr_X0_let_33 d Rq l st S I) : SW mi_X0_let 33 d Rq l st S I :=
  (show SmW mi_X0_let 33 d Rq (tr_X0_let_33 d Rq) from
  (xv_aload_n dX0_let_33 rfl
  (xv_getR (k := 3) dX0_let_34 cl_1 tg_1 in_X0 (Nat.le_of_ble_eq_true rfl) rfl q1710
  (xv_getRN (k := 9) dX0_let_37 cl_2 tg_2 in_X1 (Nat.le_of_ble_eq_true rfl) rfl q215
  (xv_iload_n dX0_let_40 rfl
  (xv_iald dX0_let_41
  (xv_ireturn dX0_let_42 rfl))))))) l st S I h
def tr_X0_tick_0 (d : Nat) (Rq : SmQ) (l : SmL) (st : List SmV) (S : SmS) (I : SmI) : Prop :=
  im_iload 1 l st S I fun l st S I =>
  im_i2l l st S I fun l st S I =>
  im_lc 1 l st S I fun l st S I =>
  im_lc 60 l st S I fun l st S I =>
  im_p_X0_isIn d l st S I fun l st S I =>
  im_zne l st S I (fun l st S I =>
  im_aload 0 l st S I fun l st S I =>
  im_getR 1 3 l st S I fun l st S I =>
  im_dup l st S I fun l st S I =>
  im_getI 2 11 l st S I fun l st S I =>
  im_iload 1 l st S I fun l st S I =>
  im_iadd l st S I fun l st S I =>
  im_putI 2 11 l st S I fun l st S I =>
  im_aload 0 l st S I fun l st S I =>
  im_aload 0 l st S I fun l st S I =>
  im_getR 1 3 l st S I fun l st S I =>
  im_callV 1 1 mi_X0_arrives d (retK mi_X0_tick 32 35 d Rq l) st S I) (fun l st S I =>
  im_ic (-1) l st S I fun l st S I =>
  im_ireturn Rq l st S I)
theorem rv_X0_tick_0 {d : Nat} {Rq : SmQ} {l : SmL} {st : List SmV} {S : SmS} {I : SmI} (h : tr_X0_tick_0 d Rq l st S I) : SW mi_X0_tick 0 d Rq l st S I :=
  (show SmW mi_X0_tick 0 d Rq (tr_X0_tick_0 d Rq) from
  (xv_iload_n dX0_tick_0 rfl
  (xv_i2l dX0_tick_1
  (xv_lconst dX0_tick_2 rfl (inR64d rfl)
  (xv_ldc2 dX0_tick_3 q1244 rfl (inR64d rfl)
  (xv_p_X0_isIn dX0_tick_6 (lw_S q156 q157 q104 q158)
  (xv_zne dX0_tick_9 rfl
  (xv_aload_n dX0_tick_14 rfl
  (xv_getR (k := 3) dX0_tick_15 cl_1 tg_1 in_X0 (Nat.le_of_ble_eq_true rfl) rfl q1710
  (xv_dup dX0_tick_18
  (xv_getIN (k := 11) dX0_tick_19 cl_2 tg_2 in_X1 (Nat.le_of_ble_eq_true rfl) rfl q221
  (xv_iload_n dX0_tick_22 rfl
  (xv_iadd dX0_tick_23
  (xv_putI (k := 11) dX0_tick_24 cl_2 tg_2 in_X1 tyX1_ok nmX1 (Nat.le_of_ble_eq_true rfl) rfl ⟨Or.inr ⟨rfl, _, q221⟩, Or.inl rfl⟩
  (xv_aload_n dX0_tick_27 rfl
  (xv_aload_n dX0_tick_28 rfl
  (xv_getR (k := 3) dX0_tick_29 cl_1 tg_1 in_X0 (Nat.le_of_ble_eq_true rfl) rfl q1710
  (xv_callV dX0_tick_32 cl_1 tg_1 ok_X0_arrives rfl (lw_V q722 q724 qs27 q104 q725))))))))))))
  (xv_iconst dX0_tick_12 rfl (inRd rfl)
  (xv_ireturn dX0_tick_13 rfl))))))))) l st S I h
def tr_X0_tick_35 (d : Nat) (Rq : SmQ) (l : SmL) (st : List SmV) (S : SmS) (I : SmI) : Prop :=
  im_ireturn Rq l st S I
theorem rv_X0_tick_35 {d : Nat} {Rq : SmQ} {l : SmL} {st : List SmV} {S : SmS} {I : SmI} (h : tr_X0_tick_35 d Rq l st S I) : SW mi_X0_tick 35 d Rq l st S I :=
  (show SmW mi_X0_tick 35 d Rq (tr_X0_tick_35 d Rq) from
  (xv_ireturn dX0_tick_35 rfl)) l st S I h
def tr_X0_send_0 (d : Nat) (Rq : SmQ) (l : SmL) (st : List SmV) (S : SmS) (I : SmI) : Prop :=
  im_iload 1 l st S I fun l st S I =>
  im_i2l l st S I fun l st S I =>
  im_lc 0 l st S I fun l st S I =>
  im_lc 2 l st S I fun l st S I =>
  im_p_X0_isIn d l st S I fun l st S I =>
  im_zne l st S I (fun l st S I =>
  im_aload 0 l st S I fun l st S I =>
  im_aload 0 l st S I fun l st S I =>
  im_getR 1 3 l st S I fun l st S I =>
  im_iload 1 l st S I fun l st S I =>
  im_callV 2 1 mi_X0_beforeBy d (retK mi_X0_send 20 23 d Rq l) st S I) (fun l st S I =>
  im_ic (-1) l st S I fun l st S I =>
  im_ireturn Rq l st S I)
theorem rv_X0_send_0 {d : Nat} {Rq : SmQ} {l : SmL} {st : List SmV} {S : SmS} {I : SmI} (h : tr_X0_send_0 d Rq l st S I) : SW mi_X0_send 0 d Rq l st S I :=
  (show SmW mi_X0_send 0 d Rq (tr_X0_send_0 d Rq) from
  (xv_iload_n dX0_send_0 rfl
  (xv_i2l dX0_send_1
  (xv_lconst dX0_send_2 rfl (inR64d rfl)
  (xv_ldc2 dX0_send_3 q700 rfl (inR64d rfl)
  (xv_p_X0_isIn dX0_send_6 (lw_S q156 q157 q104 q158)
  (xv_zne dX0_send_9 rfl
  (xv_aload_n dX0_send_14 rfl
  (xv_aload_n dX0_send_15 rfl
  (xv_getR (k := 3) dX0_send_16 cl_1 tg_1 in_X0 (Nat.le_of_ble_eq_true rfl) rfl q1710
  (xv_iload_n dX0_send_19 rfl
  (xv_callV dX0_send_20 cl_1 tg_1 ok_X0_beforeBy rfl (lw_V q705 q707 qs25 q104 q708))))))
  (xv_iconst dX0_send_12 rfl (inRd rfl)
  (xv_ireturn dX0_send_13 rfl))))))))) l st S I h
def tr_X0_send_23 (d : Nat) (Rq : SmQ) (l : SmL) (st : List SmV) (S : SmS) (I : SmI) : Prop :=
  im_astore 2 l st S I fun l st S I =>
  im_ic 0 l st S I fun l st S I =>
  im_istore 3 l st S I fun l st S I =>
  im_aload 0 l st S I fun l st S I =>
  im_getR 1 3 l st S I fun l st S I =>
  im_aload 0 l st S I fun l st S I =>
  im_getR 1 4 l st S I fun l st S I =>
  im_aload 2 l st S I fun l st S I =>
  im_callS 3 mi_X0_chosen d (retK mi_X0_send 35 38 d Rq l) st S I
theorem rv_X0_send_23 {d : Nat} {Rq : SmQ} {l : SmL} {st : List SmV} {S : SmS} {I : SmI} (h : tr_X0_send_23 d Rq l st S I) : SW mi_X0_send 23 d Rq l st S I :=
  (show SmW mi_X0_send 23 d Rq (tr_X0_send_23 d Rq) from
  (xv_astore_n dX0_send_23 rfl (Nat.le_of_ble_eq_true rfl)
  (xv_iconst dX0_send_24 rfl (inRd rfl)
  (xv_istore_n dX0_send_25 rfl (Nat.le_of_ble_eq_true rfl)
  (xv_aload_n dX0_send_26 rfl
  (xv_getR (k := 3) dX0_send_27 cl_1 tg_1 in_X0 (Nat.le_of_ble_eq_true rfl) rfl q1710
  (xv_aload_n dX0_send_30 rfl
  (xv_getR (k := 4) dX0_send_31 cl_1 tg_1 in_X0 (Nat.le_of_ble_eq_true rfl) rfl q1711
  (xv_aload_n dX0_send_34 rfl
  (xv_callS dX0_send_35 ok_X0_chosen (lw_S q716 q717 q104 q718))))))))))) l st S I h
def tr_X0_send_38 (d : Nat) (Rq : SmQ) (l : SmL) (st : List SmV) (S : SmS) (I : SmI) : Prop :=
  im_istore 4 l st S I fun l st S I =>
  SW mi_X0_send 40 d Rq l st S I
theorem rv_X0_send_38 {d : Nat} {Rq : SmQ} {l : SmL} {st : List SmV} {S : SmS} {I : SmI} (h : tr_X0_send_38 d Rq l st S I) : SW mi_X0_send 38 d Rq l st S I :=
  (show SmW mi_X0_send 38 d Rq (tr_X0_send_38 d Rq) from
  (xv_istore dX0_send_38 (Nat.le_of_ble_eq_true rfl)
  (fun _ _ _ _ h => h))) l st S I h
def tr_X0_send_40 (d : Nat) (Rq : SmQ) (l : SmL) (st : List SmV) (S : SmS) (I : SmI) : Prop :=
  im_iload 4 l st S I fun l st S I =>
  im_ic (-4) l st S I fun l st S I =>
  im_ceq l st S I (fun l st S I =>
  im_iload 3 l st S I fun l st S I =>
  im_ireturn Rq l st S I) (fun l st S I =>
  im_aload 0 l st S I fun l st S I =>
  im_iload 4 l st S I fun l st S I =>
  im_callV 1 1 mi_X0_lets d (retK mi_X0_send 50 53 d Rq l) st S I)
theorem rv_X0_send_40 {d : Nat} {Rq : SmQ} {l : SmL} {st : List SmV} {S : SmS} {I : SmI} (h : tr_X0_send_40 d Rq l st S I) : SW mi_X0_send 40 d Rq l st S I :=
  (show SmW mi_X0_send 40 d Rq (tr_X0_send_40 d Rq) from
  (xv_iload dX0_send_40
  (xv_bipush dX0_send_42 rfl (inRd rfl)
  (xv_ceq dX0_send_44 rfl
  (xv_iload_n dX0_send_73 rfl
  (xv_ireturn dX0_send_74 rfl))
  (xv_aload_n dX0_send_47 rfl
  (xv_iload dX0_send_48
  (xv_callV dX0_send_50 cl_1 tg_1 ok_X0_lets rfl (lw_V q1043 q1045 qs30 q104 q1046)))))))) l st S I h
def tr_X0_send_53 (d : Nat) (Rq : SmQ) (l : SmL) (st : List SmV) (S : SmS) (I : SmI) : Prop :=
  im_iinc 3 1 l st S I fun l st S I =>
  im_aload 0 l st S I fun l st S I =>
  im_getR 1 3 l st S I fun l st S I =>
  im_aload 0 l st S I fun l st S I =>
  im_getR 1 4 l st S I fun l st S I =>
  im_aload 2 l st S I fun l st S I =>
  im_callS 3 mi_X0_chosen d (retK mi_X0_send 65 68 d Rq l) st S I
theorem rv_X0_send_53 {d : Nat} {Rq : SmQ} {l : SmL} {st : List SmV} {S : SmS} {I : SmI} (h : tr_X0_send_53 d Rq l st S I) : SW mi_X0_send 53 d Rq l st S I :=
  (show SmW mi_X0_send 53 d Rq (tr_X0_send_53 d Rq) from
  (xv_iinc dX0_send_53 (Nat.le_of_ble_eq_true rfl)
  (xv_aload_n dX0_send_56 rfl
  (xv_getR (k := 3) dX0_send_57 cl_1 tg_1 in_X0 (Nat.le_of_ble_eq_true rfl) rfl q1710
  (xv_aload_n dX0_send_60 rfl
  (xv_getR (k := 4) dX0_send_61 cl_1 tg_1 in_X0 (Nat.le_of_ble_eq_true rfl) rfl q1711
  (xv_aload_n dX0_send_64 rfl
  (xv_callS dX0_send_65 ok_X0_chosen (lw_S q716 q717 q104 q718))))))))) l st S I h
def tr_X0_send_68 (d : Nat) (Rq : SmQ) (l : SmL) (st : List SmV) (S : SmS) (I : SmI) : Prop :=
  im_istore 4 l st S I fun l st S I =>
  SW mi_X0_send 40 d Rq l st S I
theorem rv_X0_send_68 {d : Nat} {Rq : SmQ} {l : SmL} {st : List SmV} {S : SmS} {I : SmI} (h : tr_X0_send_68 d Rq l st S I) : SW mi_X0_send 68 d Rq l st S I :=
  (show SmW mi_X0_send 68 d Rq (tr_X0_send_68 d Rq) from
  (xv_istore dX0_send_68 (Nat.le_of_ble_eq_true rfl)
  (xv_goto dX0_send_70 rfl (fun _ _ _ _ h => h)))) l st S I h
def tr_X0_feed_0 (d : Nat) (Rq : SmQ) (l : SmL) (st : List SmV) (S : SmS) (I : SmI) : Prop :=
  im_iload 1 l st S I fun l st S I =>
  im_i2l l st S I fun l st S I =>
  im_lc 0 l st S I fun l st S I =>
  im_lc 127 l st S I fun l st S I =>
  im_p_X0_isIn d l st S I fun l st S I =>
  im_zne l st S I (fun l st S I =>
  im_aload 0 l st S I fun l st S I =>
  im_getI 1 1 l st S I fun l st S I =>
  im_ic 160 l st S I fun l st S I =>
  im_cne l st S I (fun l st S I =>
  im_aload 0 l st S I fun l st S I =>
  im_getR 1 0 l st S I fun l st S I =>
  im_aload 0 l st S I fun l st S I =>
  im_getI 1 1 l st S I fun l st S I =>
  im_iload 1 l st S I fun l st S I =>
  im_i2b l st S I fun l st S I =>
  im_bast l st S I fun l st S I =>
  im_aload 0 l st S I fun l st S I =>
  im_dup l st S I fun l st S I =>
  im_getI 1 1 l st S I fun l st S I =>
  im_ic 1 l st S I fun l st S I =>
  im_iadd l st S I fun l st S I =>
  im_putI 1 1 l st S I fun l st S I =>
  im_aload 0 l st S I fun l st S I =>
  im_getI 1 1 l st S I fun l st S I =>
  im_ireturn Rq l st S I) (fun l st S I =>
  im_ic (-3) l st S I fun l st S I =>
  im_ireturn Rq l st S I)) (fun l st S I =>
  im_ic (-1) l st S I fun l st S I =>
  im_ireturn Rq l st S I)
theorem rv_X0_feed_0 {d : Nat} {Rq : SmQ} {l : SmL} {st : List SmV} {S : SmS} {I : SmI} (h : tr_X0_feed_0 d Rq l st S I) : SW mi_X0_feed 0 d Rq l st S I :=
  (show SmW mi_X0_feed 0 d Rq (tr_X0_feed_0 d Rq) from
  (xv_iload_n dX0_feed_0 rfl
  (xv_i2l dX0_feed_1
  (xv_lconst dX0_feed_2 rfl (inR64d rfl)
  (xv_ldc2 dX0_feed_3 q155 rfl (inR64d rfl)
  (xv_p_X0_isIn dX0_feed_6 (lw_S q156 q157 q104 q158)
  (xv_zne dX0_feed_9 rfl
  (xv_aload_n dX0_feed_14 rfl
  (xv_getI (k := 1) dX0_feed_15 cl_1 tg_1 in_X0 (Nat.le_of_ble_eq_true rfl) rfl q1708
  (xv_sipush dX0_feed_18 rfl (inRd rfl)
  (xv_cne dX0_feed_21 rfl
  (xv_aload_n dX0_feed_27 rfl
  (xv_getR (k := 0) dX0_feed_28 cl_1 tg_1 in_X0 (Nat.le_of_ble_eq_true rfl) rfl q1707
  (xv_aload_n dX0_feed_31 rfl
  (xv_getI (k := 1) dX0_feed_32 cl_1 tg_1 in_X0 (Nat.le_of_ble_eq_true rfl) rfl q1708
  (xv_iload_n dX0_feed_35 rfl
  (xv_i2b dX0_feed_36
  (xv_bast dX0_feed_37
  (xv_aload_n dX0_feed_38 rfl
  (xv_dup dX0_feed_39
  (xv_getI (k := 1) dX0_feed_40 cl_1 tg_1 in_X0 (Nat.le_of_ble_eq_true rfl) rfl q1708
  (xv_iconst dX0_feed_43 rfl (inRd rfl)
  (xv_iadd dX0_feed_44
  (xv_putI (k := 1) dX0_feed_45 cl_1 tg_1 in_X0 tyX0_ok nmX0 (Nat.le_of_ble_eq_true rfl) rfl ⟨Or.inl q1708, Or.inl rfl⟩
  (xv_aload_n dX0_feed_48 rfl
  (xv_getI (k := 1) dX0_feed_49 cl_1 tg_1 in_X0 (Nat.le_of_ble_eq_true rfl) rfl q1708
  (xv_ireturn dX0_feed_52 rfl))))))))))))))))
  (xv_bipush dX0_feed_24 rfl (inRd rfl)
  (xv_ireturn dX0_feed_26 rfl))))))
  (xv_iconst dX0_feed_12 rfl (inRd rfl)
  (xv_ireturn dX0_feed_13 rfl))))))))) l st S I h
def tr_X0_end_0 (d : Nat) (Rq : SmQ) (l : SmL) (st : List SmV) (S : SmS) (I : SmI) : Prop :=
  im_iload 1 l st S I fun l st S I =>
  im_i2l l st S I fun l st S I =>
  im_lc 0 l st S I fun l st S I =>
  im_aload 0 l st S I fun l st S I =>
  im_getI 1 1 l st S I fun l st S I =>
  im_i2l l st S I fun l st S I =>
  im_p_X0_isIn d l st S I fun l st S I =>
  im_zne l st S I (fun l st S I =>
  im_aload 0 l st S I fun l st S I =>
  im_getI 1 1 l st S I fun l st S I =>
  im_istore 2 l st S I fun l st S I =>
  im_aload 0 l st S I fun l st S I =>
  im_iload 1 l st S I fun l st S I =>
  im_putI 1 1 l st S I fun l st S I =>
  im_iload 2 l st S I fun l st S I =>
  im_ireturn Rq l st S I) (fun l st S I =>
  im_ic (-1) l st S I fun l st S I =>
  im_ireturn Rq l st S I)
theorem rv_X0_end_0 {d : Nat} {Rq : SmQ} {l : SmL} {st : List SmV} {S : SmS} {I : SmI} (h : tr_X0_end_0 d Rq l st S I) : SW mi_X0_end 0 d Rq l st S I :=
  (show SmW mi_X0_end 0 d Rq (tr_X0_end_0 d Rq) from
  (xv_iload_n dX0_end_0 rfl
  (xv_i2l dX0_end_1
  (xv_lconst dX0_end_2 rfl (inR64d rfl)
  (xv_aload_n dX0_end_3 rfl
  (xv_getI (k := 1) dX0_end_4 cl_1 tg_1 in_X0 (Nat.le_of_ble_eq_true rfl) rfl q1708
  (xv_i2l dX0_end_7
  (xv_p_X0_isIn dX0_end_8 (lw_S q156 q157 q104 q158)
  (xv_zne dX0_end_11 rfl
  (xv_aload_n dX0_end_16 rfl
  (xv_getI (k := 1) dX0_end_17 cl_1 tg_1 in_X0 (Nat.le_of_ble_eq_true rfl) rfl q1708
  (xv_istore_n dX0_end_20 rfl (Nat.le_of_ble_eq_true rfl)
  (xv_aload_n dX0_end_21 rfl
  (xv_iload_n dX0_end_22 rfl
  (xv_putI (k := 1) dX0_end_23 cl_1 tg_1 in_X0 tyX0_ok nmX0 (Nat.le_of_ble_eq_true rfl) rfl ⟨Or.inl q1708, Or.inl rfl⟩
  (xv_iload_n dX0_end_26 rfl
  (xv_ireturn dX0_end_27 rfl))))))))
  (xv_iconst dX0_end_14 rfl (inRd rfl)
  (xv_ireturn dX0_end_15 rfl))))))))))) l st S I h
def tr_X0_fault_0 (d : Nat) (Rq : SmQ) (l : SmL) (st : List SmV) (S : SmS) (I : SmI) : Prop :=
  im_aload 0 l st S I fun l st S I =>
  im_getI 1 2 l st S I fun l st S I =>
  im_ireturn Rq l st S I
theorem rv_X0_fault_0 {d : Nat} {Rq : SmQ} {l : SmL} {st : List SmV} {S : SmS} {I : SmI} (h : tr_X0_fault_0 d Rq l st S I) : SW mi_X0_fault 0 d Rq l st S I :=
  (show SmW mi_X0_fault 0 d Rq (tr_X0_fault_0 d Rq) from
  (xv_aload_n dX0_fault_0 rfl
  (xv_getI (k := 2) dX0_fault_1 cl_1 tg_1 in_X0 (Nat.le_of_ble_eq_true rfl) rfl q1709
  (xv_ireturn dX0_fault_4 rfl)))) l st S I h
def tr_X0_torn_0 (d : Nat) (Rq : SmQ) (l : SmL) (st : List SmV) (S : SmS) (I : SmI) : Prop :=
  im_aload 0 l st S I fun l st S I =>
  im_getI 1 11 l st S I fun l st S I =>
  im_ireturn Rq l st S I
theorem rv_X0_torn_0 {d : Nat} {Rq : SmQ} {l : SmL} {st : List SmV} {S : SmS} {I : SmI} (h : tr_X0_torn_0 d Rq l st S I) : SW mi_X0_torn 0 d Rq l st S I :=
  (show SmW mi_X0_torn 0 d Rq (tr_X0_torn_0 d Rq) from
  (xv_aload_n dX0_torn_0 rfl
  (xv_getI (k := 11) dX0_torn_1 cl_1 tg_1 in_X0 (Nat.le_of_ble_eq_true rfl) rfl q1718
  (xv_ireturn dX0_torn_4 rfl)))) l st S I h
def tr_X0_count_0 (d : Nat) (Rq : SmQ) (l : SmL) (st : List SmV) (S : SmS) (I : SmI) : Prop :=
  im_iload 1 l st S I fun l st S I =>
  im_tsw 0 5 [(fun l st S I =>
  im_aload 0 l st S I fun l st S I =>
  im_getR 1 8 l st S I fun l st S I =>
  im_ic 0 l st S I fun l st S I =>
  im_aald 105 l st S I fun l st S I =>
  im_getI 4 2 l st S I fun l st S I =>
  im_zeq l st S I (fun l st S I =>
  im_ic 0 l st S I fun l st S I =>
  SW mi_X0_count 57 d Rq l st S I) (fun l st S I =>
  im_ic 1 l st S I fun l st S I =>
  SW mi_X0_count 57 d Rq l st S I)), (fun l st S I =>
  im_aload 0 l st S I fun l st S I =>
  im_iload 1 l st S I fun l st S I =>
  im_callV 1 1 mi_X0_sumOf d (retK mi_X0_count 78 81 d Rq l) st S I), (fun l st S I =>
  im_aload 0 l st S I fun l st S I =>
  im_getI 1 1 l st S I fun l st S I =>
  im_ireturn Rq l st S I), (fun l st S I =>
  im_aload 0 l st S I fun l st S I =>
  im_getR 1 10 l st S I fun l st S I =>
  im_ic 0 l st S I fun l st S I =>
  im_aald 106 l st S I fun l st S I =>
  im_getR 5 0 l st S I fun l st S I =>
  im_ifnn l st S I (fun l st S I =>
  im_aload 0 l st S I fun l st S I =>
  im_getR 1 10 l st S I fun l st S I =>
  im_ic 0 l st S I fun l st S I =>
  im_aald 106 l st S I fun l st S I =>
  im_getI 5 1 l st S I fun l st S I =>
  im_ireturn Rq l st S I) (fun l st S I =>
  im_ic (-4) l st S I fun l st S I =>
  im_ireturn Rq l st S I)), (fun l st S I =>
  im_aload 0 l st S I fun l st S I =>
  im_callV 0 1 mi_X0_lengths d (retK mi_X0_count 115 118 d Rq l) st S I), (fun l st S I =>
  im_aload 0 l st S I fun l st S I =>
  im_iload 1 l st S I fun l st S I =>
  im_callV 1 1 mi_X0_sumOf d (retK mi_X0_count 78 81 d Rq l) st S I)] (fun l st S I =>
  im_ic (-1) l st S I fun l st S I =>
  im_ireturn Rq l st S I) l st S I
theorem rv_X0_count_0 {d : Nat} {Rq : SmQ} {l : SmL} {st : List SmV} {S : SmS} {I : SmI} (h : tr_X0_count_0 d Rq l st S I) : SW mi_X0_count 0 d Rq l st S I :=
  (show SmW mi_X0_count 0 d Rq (tr_X0_count_0 d Rq) from
  (xv_iload_n dX0_count_0 rfl
  (xv_tsw dX0_count_1 rfl ⟨⟨40, rfl, (xv_aload_n dX0_count_40 rfl
  (xv_getR (k := 8) dX0_count_41 cl_1 tg_1 in_X0 (Nat.le_of_ble_eq_true rfl) rfl q1715
  (xv_iconst dX0_count_44 rfl (inRd rfl)
  (xv_aald dX0_count_45 ⟨(Nat.le_of_ble_eq_true rfl), (Nat.le_of_ble_eq_true rfl)⟩
  (xv_getIN (k := 2) dX0_count_46 cl_4 tg_4 in_X4 (Nat.le_of_ble_eq_true rfl) rfl q1685
  (xv_zeq dX0_count_49 rfl
  (xv_iconst dX0_count_56 rfl (inRd rfl)
  (fun _ _ _ _ h => h))
  (xv_iconst dX0_count_52 rfl (inRd rfl)
  (xv_goto dX0_count_53 rfl (fun _ _ _ _ h => h)))))))))⟩, ⟨76, rfl, (xv_aload_n dX0_count_76 rfl
  (xv_iload_n dX0_count_77 rfl
  (xv_callV dX0_count_78 cl_1 tg_1 ok_X0_sumOf rfl (lw_V q1848 q1850 qs45 q104 q1851))))⟩, ⟨82, rfl, (xv_aload_n dX0_count_82 rfl
  (xv_getI (k := 1) dX0_count_83 cl_1 tg_1 in_X0 (Nat.le_of_ble_eq_true rfl) rfl q1708
  (xv_ireturn dX0_count_86 rfl)))⟩, ⟨87, rfl, (xv_aload_n dX0_count_87 rfl
  (xv_getR (k := 10) dX0_count_88 cl_1 tg_1 in_X0 (Nat.le_of_ble_eq_true rfl) rfl q1717
  (xv_iconst dX0_count_91 rfl (inRd rfl)
  (xv_aald dX0_count_92 ⟨(Nat.le_of_ble_eq_true rfl), (Nat.le_of_ble_eq_true rfl)⟩
  (xv_getRN (k := 0) dX0_count_93 cl_5 tg_5 in_X5 (Nat.le_of_ble_eq_true rfl) rfl q1700
  (xv_ifnn dX0_count_96 rfl
  (xv_aload_n dX0_count_104 rfl
  (xv_getR (k := 10) dX0_count_105 cl_1 tg_1 in_X0 (Nat.le_of_ble_eq_true rfl) rfl q1717
  (xv_iconst dX0_count_108 rfl (inRd rfl)
  (xv_aald dX0_count_109 ⟨(Nat.le_of_ble_eq_true rfl), (Nat.le_of_ble_eq_true rfl)⟩
  (xv_getIN (k := 1) dX0_count_110 cl_5 tg_5 in_X5 (Nat.le_of_ble_eq_true rfl) rfl q1701
  (xv_ireturn dX0_count_113 rfl))))))
  (xv_bipush dX0_count_99 rfl (inRd rfl)
  (xv_goto dX0_count_101 rfl (xv_ireturn dX0_count_113 rfl)))))))))⟩, ⟨114, rfl, (xv_aload_n dX0_count_114 rfl
  (xv_callV dX0_count_115 cl_1 tg_1 ok_X0_lengths rfl (lw_V q1852 q1854 qs46 q104 q1855)))⟩, ⟨76, rfl, (xv_aload_n dX0_count_76 rfl
  (xv_iload_n dX0_count_77 rfl
  (xv_callV dX0_count_78 cl_1 tg_1 ok_X0_sumOf rfl (lw_V q1848 q1850 qs45 q104 q1851))))⟩, trivial⟩ rfl (xv_iconst dX0_count_119 rfl (inRd rfl)
  (xv_ireturn dX0_count_120 rfl))))) l st S I h
def tr_X0_count_57 (d : Nat) (Rq : SmQ) (l : SmL) (st : List SmV) (S : SmS) (I : SmI) : Prop :=
  im_aload 0 l st S I fun l st S I =>
  im_getR 1 8 l st S I fun l st S I =>
  im_ic 1 l st S I fun l st S I =>
  im_aald 105 l st S I fun l st S I =>
  im_getI 4 2 l st S I fun l st S I =>
  im_zeq l st S I (fun l st S I =>
  im_ic 0 l st S I fun l st S I =>
  im_iadd l st S I fun l st S I =>
  im_ireturn Rq l st S I) (fun l st S I =>
  im_ic 1 l st S I fun l st S I =>
  im_iadd l st S I fun l st S I =>
  im_ireturn Rq l st S I)
theorem rv_X0_count_57 {d : Nat} {Rq : SmQ} {l : SmL} {st : List SmV} {S : SmS} {I : SmI} (h : tr_X0_count_57 d Rq l st S I) : SW mi_X0_count 57 d Rq l st S I :=
  (show SmW mi_X0_count 57 d Rq (tr_X0_count_57 d Rq) from
  (xv_aload_n dX0_count_57 rfl
  (xv_getR (k := 8) dX0_count_58 cl_1 tg_1 in_X0 (Nat.le_of_ble_eq_true rfl) rfl q1715
  (xv_iconst dX0_count_61 rfl (inRd rfl)
  (xv_aald dX0_count_62 ⟨(Nat.le_of_ble_eq_true rfl), (Nat.le_of_ble_eq_true rfl)⟩
  (xv_getIN (k := 2) dX0_count_63 cl_4 tg_4 in_X4 (Nat.le_of_ble_eq_true rfl) rfl q1685
  (xv_zeq dX0_count_66 rfl
  (xv_iconst dX0_count_73 rfl (inRd rfl)
  (xv_iadd dX0_count_74
  (xv_ireturn dX0_count_75 rfl)))
  (xv_iconst dX0_count_69 rfl (inRd rfl)
  (xv_goto dX0_count_70 rfl (xv_iadd dX0_count_74
  (xv_ireturn dX0_count_75 rfl))))))))))) l st S I h
def tr_X0_count_81 (d : Nat) (Rq : SmQ) (l : SmL) (st : List SmV) (S : SmS) (I : SmI) : Prop :=
  im_ireturn Rq l st S I
theorem rv_X0_count_81 {d : Nat} {Rq : SmQ} {l : SmL} {st : List SmV} {S : SmS} {I : SmI} (h : tr_X0_count_81 d Rq l st S I) : SW mi_X0_count 81 d Rq l st S I :=
  (show SmW mi_X0_count 81 d Rq (tr_X0_count_81 d Rq) from
  (xv_ireturn dX0_count_81 rfl)) l st S I h
def tr_X0_count_118 (d : Nat) (Rq : SmQ) (l : SmL) (st : List SmV) (S : SmS) (I : SmI) : Prop :=
  im_ireturn Rq l st S I
theorem rv_X0_count_118 {d : Nat} {Rq : SmQ} {l : SmL} {st : List SmV} {S : SmS} {I : SmI} (h : tr_X0_count_118 d Rq l st S I) : SW mi_X0_count 118 d Rq l st S I :=
  (show SmW mi_X0_count 118 d Rq (tr_X0_count_118 d Rq) from
  (xv_ireturn dX0_count_118 rfl)) l st S I h
def tr_X0_journal_0 (d : Nat) (Rq : SmQ) (l : SmL) (st : List SmV) (S : SmS) (I : SmI) : Prop :=
  im_iload 1 l st S I fun l st S I =>
  im_zlt l st S I (fun l st S I =>
  im_ic (-1) l st S I fun l st S I =>
  im_ireturn Rq l st S I) (fun l st S I =>
  im_iload 2 l st S I fun l st S I =>
  im_i2l l st S I fun l st S I =>
  im_lc 0 l st S I fun l st S I =>
  im_lc 2 l st S I fun l st S I =>
  im_p_X0_isIn d l st S I fun l st S I =>
  im_zne l st S I (fun l st S I =>
  im_iload 1 l st S I fun l st S I =>
  im_istore 3 l st S I fun l st S I =>
  im_aload 0 l st S I fun l st S I =>
  im_getR 1 5 l st S I fun l st S I =>
  im_callV 0 12 mi_J2_iterator d (retK mi_X0_journal 24 27 d Rq l) st S I) (fun l st S I =>
  im_ic (-1) l st S I fun l st S I =>
  im_ireturn Rq l st S I))
theorem rv_X0_journal_0 {d : Nat} {Rq : SmQ} {l : SmL} {st : List SmV} {S : SmS} {I : SmI} (h : tr_X0_journal_0 d Rq l st S I) : SW mi_X0_journal 0 d Rq l st S I :=
  (show SmW mi_X0_journal 0 d Rq (tr_X0_journal_0 d Rq) from
  (xv_iload_n dX0_journal_0 rfl
  (xv_zlt dX0_journal_1 rfl
  (xv_iconst dX0_journal_16 rfl (inRd rfl)
  (xv_ireturn dX0_journal_17 rfl))
  (xv_iload_n dX0_journal_4 rfl
  (xv_i2l dX0_journal_5
  (xv_lconst dX0_journal_6 rfl (inR64d rfl)
  (xv_ldc2 dX0_journal_7 q700 rfl (inR64d rfl)
  (xv_p_X0_isIn dX0_journal_10 (lw_S q156 q157 q104 q158)
  (xv_zne dX0_journal_13 rfl
  (xv_iload_n dX0_journal_18 rfl
  (xv_istore_n dX0_journal_19 rfl (Nat.le_of_ble_eq_true rfl)
  (xv_aload_n dX0_journal_20 rfl
  (xv_getR (k := 5) dX0_journal_21 cl_1 tg_1 in_X0 (Nat.le_of_ble_eq_true rfl) rfl q1712
  (xv_callV dX0_journal_24 cl_12 tg_12 ok_J2_iterator rfl (lw_V q1253 q1254 q1255 q109 q1256))))))
  (xv_iconst dX0_journal_16 rfl (inRd rfl)
  (xv_ireturn dX0_journal_17 rfl))))))))))) l st S I h
def tr_X0_journal_27 (d : Nat) (Rq : SmQ) (l : SmL) (st : List SmV) (S : SmS) (I : SmI) : Prop :=
  im_astore 4 l st S I fun l st S I =>
  SW mi_X0_journal 29 d Rq l st S I
theorem rv_X0_journal_27 {d : Nat} {Rq : SmQ} {l : SmL} {st : List SmV} {S : SmS} {I : SmI} (h : tr_X0_journal_27 d Rq l st S I) : SW mi_X0_journal 27 d Rq l st S I :=
  (show SmW mi_X0_journal 27 d Rq (tr_X0_journal_27 d Rq) from
  (xv_astore dX0_journal_27 (Nat.le_of_ble_eq_true rfl)
  (fun _ _ _ _ h => h))) l st S I h
def tr_X0_journal_29 (d : Nat) (Rq : SmQ) (l : SmL) (st : List SmV) (S : SmS) (I : SmI) : Prop :=
  im_aload 4 l st S I fun l st S I =>
  im_callV 0 16 mi_J25_hasNext d (retK mi_X0_journal 31 36 d Rq l) st S I
theorem rv_X0_journal_29 {d : Nat} {Rq : SmQ} {l : SmL} {st : List SmV} {S : SmS} {I : SmI} (h : tr_X0_journal_29 d Rq l st S I) : SW mi_X0_journal 29 d Rq l st S I :=
  (show SmW mi_X0_journal 29 d Rq (tr_X0_journal_29 d Rq) from
  (xv_aload dX0_journal_29
  (xv_callF (x := ⟨"java/util/Iterator", "hasNext", "()Z"⟩) (J := "java/util/Iterator") dX0_journal_31 cl_16 tg_16 ok_J25_hasNext ⟨⟨by decide, by decide⟩, by decide +kernel⟩ ⟨Or.inl (lw_at lw_m6 25 rfl), q1330, Or.inl q1329, q1342, q1344, q1345, q1343, q1341, q143, q1346, Or.inl rfl⟩))) l st S I h
def tr_X0_journal_36 (d : Nat) (Rq : SmQ) (l : SmL) (st : List SmV) (S : SmS) (I : SmI) : Prop :=
  im_zeq l st S I (fun l st S I =>
  im_ic (-4) l st S I fun l st S I =>
  im_ireturn Rq l st S I) (fun l st S I =>
  im_aload 4 l st S I fun l st S I =>
  im_callV 0 16 mi_J26_next d (retK mi_X0_journal 41 46 d Rq l) st S I)
theorem rv_X0_journal_36 {d : Nat} {Rq : SmQ} {l : SmL} {st : List SmV} {S : SmS} {I : SmI} (h : tr_X0_journal_36 d Rq l st S I) : SW mi_X0_journal 36 d Rq l st S I :=
  (show SmW mi_X0_journal 36 d Rq (tr_X0_journal_36 d Rq) from
  (xv_zeq dX0_journal_36 rfl
  (xv_bipush dX0_journal_92 rfl (inRd rfl)
  (xv_ireturn dX0_journal_94 rfl))
  (xv_aload dX0_journal_39
  (xv_callF (x := ⟨"java/util/Iterator", "next", "()Ljava/lang/Object;"⟩) (J := "java/util/Iterator") dX0_journal_41 cl_16 tg_16 ok_J26_next ⟨⟨by decide, by decide⟩, by decide +kernel⟩ ⟨Or.inl (lw_at lw_m6 45 rfl), q1350, Or.inl q1349, q1370, q1372, q1373, q1371, q1341, q144, q1374, Or.inl rfl⟩)))) l st S I h
def tr_X0_journal_46 (d : Nat) (Rq : SmQ) (l : SmL) (st : List SmV) (S : SmS) (I : SmI) : Prop :=
  im_castO [8] l st S I fun l st S I =>
  im_astore 5 l st S I fun l st S I =>
  im_iload 3 l st S I fun l st S I =>
  im_zne l st S I (fun l st S I =>
  im_iinc 3 (-1) l st S I fun l st S I =>
  SW mi_X0_journal 29 d Rq l st S I) (fun l st S I =>
  im_iload 2 l st S I fun l st S I =>
  im_zne l st S I (fun l st S I =>
  im_iload 2 l st S I fun l st S I =>
  im_ic 1 l st S I fun l st S I =>
  im_cne l st S I (fun l st S I =>
  im_aload 5 l st S I fun l st S I =>
  im_getI 8 2 l st S I fun l st S I =>
  im_ireturn Rq l st S I) (fun l st S I =>
  im_aload 5 l st S I fun l st S I =>
  im_getI 8 1 l st S I fun l st S I =>
  im_ireturn Rq l st S I)) (fun l st S I =>
  im_aload 5 l st S I fun l st S I =>
  im_getI 8 0 l st S I fun l st S I =>
  im_ireturn Rq l st S I))
theorem rv_X0_journal_46 {d : Nat} {Rq : SmQ} {l : SmL} {st : List SmV} {S : SmS} {I : SmI} (h : tr_X0_journal_46 d Rq l st S I) : SW mi_X0_journal 46 d Rq l st S I :=
  (show SmW mi_X0_journal 46 d Rq (tr_X0_journal_46 d Rq) from
  (xv_castO dX0_journal_46 q1047 (fun t h => by cases List.mem_singleton.mp h; exact ⟨_, _, _, ⟨(Nat.le_of_ble_eq_true rfl), (Nat.le_of_ble_eq_true rfl)⟩, cl_8, Or.inl rfl⟩)
  (xv_astore dX0_journal_49 (Nat.le_of_ble_eq_true rfl)
  (xv_iload_n dX0_journal_51 rfl
  (xv_zne dX0_journal_52 rfl
  (xv_iinc dX0_journal_86 (Nat.le_of_ble_eq_true rfl)
  (xv_goto dX0_journal_89 rfl (fun _ _ _ _ h => h)))
  (xv_iload_n dX0_journal_55 rfl
  (xv_zne dX0_journal_56 rfl
  (xv_iload_n dX0_journal_67 rfl
  (xv_iconst dX0_journal_68 rfl (inRd rfl)
  (xv_cne dX0_journal_69 rfl
  (xv_aload dX0_journal_80
  (xv_getIN (k := 2) dX0_journal_82 cl_8 tg_8 in_X10 (Nat.le_of_ble_eq_true rfl) rfl q1058
  (xv_ireturn dX0_journal_85 rfl)))
  (xv_aload dX0_journal_72
  (xv_getIN (k := 1) dX0_journal_74 cl_8 tg_8 in_X10 (Nat.le_of_ble_eq_true rfl) rfl q1056
  (xv_goto dX0_journal_77 rfl (xv_ireturn dX0_journal_85 rfl)))))))
  (xv_aload dX0_journal_59
  (xv_getIN (k := 0) dX0_journal_61 cl_8 tg_8 in_X10 (Nat.le_of_ble_eq_true rfl) rfl q1054
  (xv_goto dX0_journal_64 rfl (xv_ireturn dX0_journal_85 rfl))))))))))) l st S I h
def tr_X0_adds_0 (d : Nat) (Rq : SmQ) (l : SmL) (st : List SmV) (S : SmS) (I : SmI) : Prop :=
  im_aload 0 l st S I fun l st S I =>
  im_iload 1 l st S I fun l st S I =>
  im_p_X0_isPlace d l st S I fun l st S I =>
  im_zeq l st S I (fun l st S I =>
  im_ic (-1) l st S I fun l st S I =>
  im_ireturn Rq l st S I) (fun l st S I =>
  im_aload 0 l st S I fun l st S I =>
  im_iload 2 l st S I fun l st S I =>
  im_p_X0_isPlace d l st S I fun l st S I =>
  im_zeq l st S I (fun l st S I =>
  im_ic (-1) l st S I fun l st S I =>
  im_ireturn Rq l st S I) (fun l st S I =>
  im_iload 1 l st S I fun l st S I =>
  im_iload 2 l st S I fun l st S I =>
  im_ceq l st S I (fun l st S I =>
  im_ic (-1) l st S I fun l st S I =>
  im_ireturn Rq l st S I) (fun l st S I =>
  im_iload 3 l st S I fun l st S I =>
  im_i2l l st S I fun l st S I =>
  im_lc 1 l st S I fun l st S I =>
  im_lc 20 l st S I fun l st S I =>
  im_p_X0_isIn d l st S I fun l st S I =>
  im_zne l st S I (fun l st S I =>
  im_aload 0 l st S I fun l st S I =>
  im_getR 1 3 l st S I fun l st S I =>
  im_getI 2 10 l st S I fun l st S I =>
  im_ic 4 l st S I fun l st S I =>
  im_cne l st S I (fun l st S I =>
  im_aload 0 l st S I fun l st S I =>
  im_getR 1 3 l st S I fun l st S I =>
  im_iload 1 l st S I fun l st S I =>
  im_iload 2 l st S I fun l st S I =>
  im_iload 3 l st S I fun l st S I =>
  im_callV 3 2 mi_X1_comes d (retK mi_X0_adds 56 59 d Rq l) st S I) (fun l st S I =>
  im_ic (-3) l st S I fun l st S I =>
  im_ireturn Rq l st S I)) (fun l st S I =>
  im_ic (-1) l st S I fun l st S I =>
  im_ireturn Rq l st S I))))
theorem rv_X0_adds_0 {d : Nat} {Rq : SmQ} {l : SmL} {st : List SmV} {S : SmS} {I : SmI} (h : tr_X0_adds_0 d Rq l st S I) : SW mi_X0_adds 0 d Rq l st S I :=
  (show SmW mi_X0_adds 0 d Rq (tr_X0_adds_0 d Rq) from
  (xv_aload_n dX0_adds_0 rfl
  (xv_iload_n dX0_adds_1 rfl
  (xv_p_X0_isPlace dX0_adds_2 (lw_V q641 q643 qs19 q104 q644)
  (xv_zeq dX0_adds_5 rfl
  (xv_iconst dX0_adds_33 rfl (inRd rfl)
  (xv_ireturn dX0_adds_34 rfl))
  (xv_aload_n dX0_adds_8 rfl
  (xv_iload_n dX0_adds_9 rfl
  (xv_p_X0_isPlace dX0_adds_10 (lw_V q641 q643 qs19 q104 q644)
  (xv_zeq dX0_adds_13 rfl
  (xv_iconst dX0_adds_33 rfl (inRd rfl)
  (xv_ireturn dX0_adds_34 rfl))
  (xv_iload_n dX0_adds_16 rfl
  (xv_iload_n dX0_adds_17 rfl
  (xv_ceq dX0_adds_18 rfl
  (xv_iconst dX0_adds_33 rfl (inRd rfl)
  (xv_ireturn dX0_adds_34 rfl))
  (xv_iload_n dX0_adds_21 rfl
  (xv_i2l dX0_adds_22
  (xv_lconst dX0_adds_23 rfl (inR64d rfl)
  (xv_ldc2 dX0_adds_24 q1390 rfl (inR64d rfl)
  (xv_p_X0_isIn dX0_adds_27 (lw_S q156 q157 q104 q158)
  (xv_zne dX0_adds_30 rfl
  (xv_aload_n dX0_adds_35 rfl
  (xv_getR (k := 3) dX0_adds_36 cl_1 tg_1 in_X0 (Nat.le_of_ble_eq_true rfl) rfl q1710
  (xv_getIN (k := 10) dX0_adds_39 cl_2 tg_2 in_X1 (Nat.le_of_ble_eq_true rfl) rfl q219
  (xv_iconst dX0_adds_42 rfl (inRd rfl)
  (xv_cne dX0_adds_43 rfl
  (xv_aload_n dX0_adds_49 rfl
  (xv_getR (k := 3) dX0_adds_50 cl_1 tg_1 in_X0 (Nat.le_of_ble_eq_true rfl) rfl q1710
  (xv_iload_n dX0_adds_53 rfl
  (xv_iload_n dX0_adds_54 rfl
  (xv_iload_n dX0_adds_55 rfl
  (xv_callV dX0_adds_56 cl_2 tg_2 ok_X1_comes rfl (lw_V q1391 q470 q471 q105 q472)))))))
  (xv_bipush dX0_adds_46 rfl (inRd rfl)
  (xv_ireturn dX0_adds_48 rfl)))))))
  (xv_iconst dX0_adds_33 rfl (inRd rfl)
  (xv_ireturn dX0_adds_34 rfl)))))))))))))))))))) l st S I h
def tr_X0_adds_59 (d : Nat) (Rq : SmQ) (l : SmL) (st : List SmV) (S : SmS) (I : SmI) : Prop :=
  im_aload 0 l st S I fun l st S I =>
  im_getR 1 4 l st S I fun l st S I =>
  im_callV 0 3 mi_X2_forgets d (retK mi_X0_adds 63 66 d Rq l) st S I
theorem rv_X0_adds_59 {d : Nat} {Rq : SmQ} {l : SmL} {st : List SmV} {S : SmS} {I : SmI} (h : tr_X0_adds_59 d Rq l st S I) : SW mi_X0_adds 59 d Rq l st S I :=
  (show SmW mi_X0_adds 59 d Rq (tr_X0_adds_59 d Rq) from
  (xv_aload_n dX0_adds_59 rfl
  (xv_getR (k := 4) dX0_adds_60 cl_1 tg_1 in_X0 (Nat.le_of_ble_eq_true rfl) rfl q1711
  (xv_callV dX0_adds_63 cl_3 tg_3 ok_X2_forgets rfl (lw_V q540 q541 q542 q106 q543))))) l st S I h
def tr_X0_adds_66 (d : Nat) (Rq : SmQ) (l : SmL) (st : List SmV) (S : SmS) (I : SmI) : Prop :=
  im_aload 0 l st S I fun l st S I =>
  im_getR 1 3 l st S I fun l st S I =>
  im_p_X1_posture d l st S I fun l st S I =>
  im_istore 4 l st S I fun l st S I =>
  im_aload 0 l st S I fun l st S I =>
  im_getR 1 4 l st S I fun l st S I =>
  im_iload 4 l st S I fun l st S I =>
  im_iload 1 l st S I fun l st S I =>
  im_callV 2 3 mi_X2_isHolding d (retK mi_X0_adds 82 85 d Rq l) st S I
theorem rv_X0_adds_66 {d : Nat} {Rq : SmQ} {l : SmL} {st : List SmV} {S : SmS} {I : SmI} (h : tr_X0_adds_66 d Rq l st S I) : SW mi_X0_adds 66 d Rq l st S I :=
  (show SmW mi_X0_adds 66 d Rq (tr_X0_adds_66 d Rq) from
  (xv_aload_n dX0_adds_66 rfl
  (xv_getR (k := 3) dX0_adds_67 cl_1 tg_1 in_X0 (Nat.le_of_ble_eq_true rfl) rfl q1710
  (xv_p_X1_posture dX0_adds_70 (lw_V q600 q497 q498 q105 q499)
  (xv_istore dX0_adds_73 (Nat.le_of_ble_eq_true rfl)
  (xv_aload_n dX0_adds_75 rfl
  (xv_getR (k := 4) dX0_adds_76 cl_1 tg_1 in_X0 (Nat.le_of_ble_eq_true rfl) rfl q1711
  (xv_iload dX0_adds_79
  (xv_iload_n dX0_adds_81 rfl
  (xv_callV dX0_adds_82 cl_3 tg_3 ok_X2_isHolding rfl (lw_V q1392 q505 q506 q106 q507))))))))))) l st S I h
def tr_X0_adds_85 (d : Nat) (Rq : SmQ) (l : SmL) (st : List SmV) (S : SmS) (I : SmI) : Prop :=
  im_zeq l st S I (fun l st S I =>
  SW mi_X0_adds 100 d Rq l st S I) (fun l st S I =>
  im_aload 0 l st S I fun l st S I =>
  im_getR 1 4 l st S I fun l st S I =>
  im_iload 4 l st S I fun l st S I =>
  im_callV 1 3 mi_X2_isSafe d (retK mi_X0_adds 94 97 d Rq l) st S I)
theorem rv_X0_adds_85 {d : Nat} {Rq : SmQ} {l : SmL} {st : List SmV} {S : SmS} {I : SmI} (h : tr_X0_adds_85 d Rq l st S I) : SW mi_X0_adds 85 d Rq l st S I :=
  (show SmW mi_X0_adds 85 d Rq (tr_X0_adds_85 d Rq) from
  (xv_zeq dX0_adds_85 rfl
  (fun _ _ _ _ h => h)
  (xv_aload_n dX0_adds_88 rfl
  (xv_getR (k := 4) dX0_adds_89 cl_1 tg_1 in_X0 (Nat.le_of_ble_eq_true rfl) rfl q1711
  (xv_iload dX0_adds_92
  (xv_callV dX0_adds_94 cl_3 tg_3 ok_X2_isSafe rfl (lw_V q636 q512 q513 q106 q514))))))) l st S I h
def tr_X0_adds_97 (d : Nat) (Rq : SmQ) (l : SmL) (st : List SmV) (S : SmS) (I : SmI) : Prop :=
  im_zne l st S I (fun l st S I =>
  im_aload 0 l st S I fun l st S I =>
  im_getR 1 3 l st S I fun l st S I =>
  im_getI 2 10 l st S I fun l st S I =>
  im_ireturn Rq l st S I) (fun l st S I =>
  SW mi_X0_adds 100 d Rq l st S I)
theorem rv_X0_adds_97 {d : Nat} {Rq : SmQ} {l : SmL} {st : List SmV} {S : SmS} {I : SmI} (h : tr_X0_adds_97 d Rq l st S I) : SW mi_X0_adds 97 d Rq l st S I :=
  (show SmW mi_X0_adds 97 d Rq (tr_X0_adds_97 d Rq) from
  (xv_zne dX0_adds_97 rfl
  (xv_aload_n dX0_adds_123 rfl
  (xv_getR (k := 3) dX0_adds_124 cl_1 tg_1 in_X0 (Nat.le_of_ble_eq_true rfl) rfl q1710
  (xv_getIN (k := 10) dX0_adds_127 cl_2 tg_2 in_X1 (Nat.le_of_ble_eq_true rfl) rfl q219
  (xv_ireturn dX0_adds_130 rfl))))
  (fun _ _ _ _ h => h))) l st S I h
def tr_X0_adds_100 (d : Nat) (Rq : SmQ) (l : SmL) (st : List SmV) (S : SmS) (I : SmI) : Prop :=
  im_aload 0 l st S I fun l st S I =>
  im_getR 1 3 l st S I fun l st S I =>
  im_dup l st S I fun l st S I =>
  im_getI 2 10 l st S I fun l st S I =>
  im_ic 1 l st S I fun l st S I =>
  im_isub l st S I fun l st S I =>
  im_putI 2 10 l st S I fun l st S I =>
  im_aload 0 l st S I fun l st S I =>
  im_getR 1 4 l st S I fun l st S I =>
  im_callV 0 3 mi_X2_forgets d (retK mi_X0_adds 117 120 d Rq l) st S I
theorem rv_X0_adds_100 {d : Nat} {Rq : SmQ} {l : SmL} {st : List SmV} {S : SmS} {I : SmI} (h : tr_X0_adds_100 d Rq l st S I) : SW mi_X0_adds 100 d Rq l st S I :=
  (show SmW mi_X0_adds 100 d Rq (tr_X0_adds_100 d Rq) from
  (xv_aload_n dX0_adds_100 rfl
  (xv_getR (k := 3) dX0_adds_101 cl_1 tg_1 in_X0 (Nat.le_of_ble_eq_true rfl) rfl q1710
  (xv_dup dX0_adds_104
  (xv_getIN (k := 10) dX0_adds_105 cl_2 tg_2 in_X1 (Nat.le_of_ble_eq_true rfl) rfl q219
  (xv_iconst dX0_adds_108 rfl (inRd rfl)
  (xv_isub dX0_adds_109
  (xv_putI (k := 10) dX0_adds_110 cl_2 tg_2 in_X1 tyX1_ok nmX1 (Nat.le_of_ble_eq_true rfl) rfl ⟨Or.inr ⟨rfl, _, q219⟩, Or.inl rfl⟩
  (xv_aload_n dX0_adds_113 rfl
  (xv_getR (k := 4) dX0_adds_114 cl_1 tg_1 in_X0 (Nat.le_of_ble_eq_true rfl) rfl q1711
  (xv_callV dX0_adds_117 cl_3 tg_3 ok_X2_forgets rfl (lw_V q540 q541 q542 q106 q543)))))))))))) l st S I h
def tr_X0_adds_120 (d : Nat) (Rq : SmQ) (l : SmL) (st : List SmV) (S : SmS) (I : SmI) : Prop :=
  im_ic (-2) l st S I fun l st S I =>
  im_ireturn Rq l st S I
theorem rv_X0_adds_120 {d : Nat} {Rq : SmQ} {l : SmL} {st : List SmV} {S : SmS} {I : SmI} (h : tr_X0_adds_120 d Rq l st S I) : SW mi_X0_adds 120 d Rq l st S I :=
  (show SmW mi_X0_adds 120 d Rq (tr_X0_adds_120 d Rq) from
  (xv_bipush dX0_adds_120 rfl (inRd rfl)
  (xv_ireturn dX0_adds_122 rfl))) l st S I h
def tr_X0_add_0 (d : Nat) (Rq : SmQ) (l : SmL) (st : List SmV) (S : SmS) (I : SmI) : Prop :=
  im_aload 0 l st S I fun l st S I =>
  im_iload 1 l st S I fun l st S I =>
  im_iload 2 l st S I fun l st S I =>
  im_iload 3 l st S I fun l st S I =>
  im_callV 3 1 mi_X0_adds d (retK mi_X0_add 4 7 d Rq l) st S I
theorem rv_X0_add_0 {d : Nat} {Rq : SmQ} {l : SmL} {st : List SmV} {S : SmS} {I : SmI} (h : tr_X0_add_0 d Rq l st S I) : SW mi_X0_add 0 d Rq l st S I :=
  (show SmW mi_X0_add 0 d Rq (tr_X0_add_0 d Rq) from
  (xv_aload_n dX0_add_0 rfl
  (xv_iload_n dX0_add_1 rfl
  (xv_iload_n dX0_add_2 rfl
  (xv_iload_n dX0_add_3 rfl
  (xv_callV dX0_add_4 cl_1 tg_1 ok_X0_adds rfl (lw_V q1386 q1388 qs39 q104 q1389))))))) l st S I h
def tr_X0_add_7 (d : Nat) (Rq : SmQ) (l : SmL) (st : List SmV) (S : SmS) (I : SmI) : Prop :=
  im_ireturn Rq l st S I
theorem rv_X0_add_7 {d : Nat} {Rq : SmQ} {l : SmL} {st : List SmV} {S : SmS} {I : SmI} (h : tr_X0_add_7 d Rq l st S I) : SW mi_X0_add 7 d Rq l st S I :=
  (show SmW mi_X0_add 7 d Rq (tr_X0_add_7 d Rq) from
  (xv_ireturn dX0_add_7 rfl)) l st S I h
def tr_X0_draw_0 (d : Nat) (Rq : SmQ) (l : SmL) (st : List SmV) (S : SmS) (I : SmI) : Prop :=
  im_iload 2 l st S I fun l st S I =>
  im_i2l l st S I fun l st S I =>
  im_lc 1 l st S I fun l st S I =>
  im_lc 8 l st S I fun l st S I =>
  im_p_X0_isIn d l st S I fun l st S I =>
  im_zne l st S I (fun l st S I =>
  im_aload 0 l st S I fun l st S I =>
  im_getR 1 3 l st S I fun l st S I =>
  im_getI 2 3 l st S I fun l st S I =>
  im_zne l st S I (fun l st S I =>
  im_iload 1 l st S I fun l st S I =>
  im_istore 3 l st S I fun l st S I =>
  im_ic 0 l st S I fun l st S I =>
  im_istore 4 l st S I fun l st S I =>
  im_ic 0 l st S I fun l st S I =>
  im_istore 5 l st S I fun l st S I =>
  SW mi_X0_draw 35 d Rq l st S I) (fun l st S I =>
  im_ic (-2) l st S I fun l st S I =>
  im_ireturn Rq l st S I)) (fun l st S I =>
  im_ic (-1) l st S I fun l st S I =>
  im_ireturn Rq l st S I)
theorem rv_X0_draw_0 {d : Nat} {Rq : SmQ} {l : SmL} {st : List SmV} {S : SmS} {I : SmI} (h : tr_X0_draw_0 d Rq l st S I) : SW mi_X0_draw 0 d Rq l st S I :=
  (show SmW mi_X0_draw 0 d Rq (tr_X0_draw_0 d Rq) from
  (xv_iload_n dX0_draw_0 rfl
  (xv_i2l dX0_draw_1
  (xv_lconst dX0_draw_2 rfl (inR64d rfl)
  (xv_ldc2 dX0_draw_3 q1448 rfl (inR64d rfl)
  (xv_p_X0_isIn dX0_draw_6 (lw_S q156 q157 q104 q158)
  (xv_zne dX0_draw_9 rfl
  (xv_aload_n dX0_draw_14 rfl
  (xv_getR (k := 3) dX0_draw_15 cl_1 tg_1 in_X0 (Nat.le_of_ble_eq_true rfl) rfl q1710
  (xv_getIN (k := 3) dX0_draw_18 cl_2 tg_2 in_X1 (Nat.le_of_ble_eq_true rfl) rfl q201
  (xv_zne dX0_draw_21 rfl
  (xv_iload_n dX0_draw_27 rfl
  (xv_istore_n dX0_draw_28 rfl (Nat.le_of_ble_eq_true rfl)
  (xv_iconst dX0_draw_29 rfl (inRd rfl)
  (xv_istore dX0_draw_30 (Nat.le_of_ble_eq_true rfl)
  (xv_iconst dX0_draw_32 rfl (inRd rfl)
  (xv_istore dX0_draw_33 (Nat.le_of_ble_eq_true rfl)
  (fun _ _ _ _ h => h)))))))
  (xv_bipush dX0_draw_24 rfl (inRd rfl)
  (xv_ireturn dX0_draw_26 rfl))))))
  (xv_iconst dX0_draw_12 rfl (inRd rfl)
  (xv_ireturn dX0_draw_13 rfl))))))))) l st S I h
def tr_X0_draw_35 (d : Nat) (Rq : SmQ) (l : SmL) (st : List SmV) (S : SmS) (I : SmI) : Prop :=
  im_iload 5 l st S I fun l st S I =>
  im_iload 2 l st S I fun l st S I =>
  im_cge l st S I (fun l st S I =>
  im_iload 4 l st S I fun l st S I =>
  im_ireturn Rq l st S I) (fun l st S I =>
  im_iload 3 l st S I fun l st S I =>
  im_ic 1103515245 l st S I fun l st S I =>
  im_imul l st S I fun l st S I =>
  im_ic 12345 l st S I fun l st S I =>
  im_iadd l st S I fun l st S I =>
  im_istore 3 l st S I fun l st S I =>
  im_iload 3 l st S I fun l st S I =>
  im_ic 16 l st S I fun l st S I =>
  im_ishr l st S I fun l st S I =>
  im_ic 32767 l st S I fun l st S I =>
  im_iand l st S I fun l st S I =>
  im_istore 6 l st S I fun l st S I =>
  im_iload 4 l st S I fun l st S I =>
  im_aload 0 l st S I fun l st S I =>
  im_iload 6 l st S I fun l st S I =>
  im_aload 0 l st S I fun l st S I =>
  im_getR 1 3 l st S I fun l st S I =>
  im_getI 2 3 l st S I fun l st S I =>
  im_irem l st S I fun l st S I =>
  im_iload 6 l st S I fun l st S I =>
  im_ic 8 l st S I fun l st S I =>
  im_idiv l st S I fun l st S I =>
  im_aload 0 l st S I fun l st S I =>
  im_getR 1 3 l st S I fun l st S I =>
  im_getI 2 3 l st S I fun l st S I =>
  im_irem l st S I fun l st S I =>
  im_iload 6 l st S I fun l st S I =>
  im_ic 64 l st S I fun l st S I =>
  im_idiv l st S I fun l st S I =>
  im_ic 6 l st S I fun l st S I =>
  im_irem l st S I fun l st S I =>
  im_ic 1 l st S I fun l st S I =>
  im_iadd l st S I fun l st S I =>
  im_callV 3 1 mi_X0_adds d (retK mi_X0_draw 97 100 d Rq l) st S I)
theorem rv_X0_draw_35 {d : Nat} {Rq : SmQ} {l : SmL} {st : List SmV} {S : SmS} {I : SmI} (h : tr_X0_draw_35 d Rq l st S I) : SW mi_X0_draw 35 d Rq l st S I :=
  (show SmW mi_X0_draw 35 d Rq (tr_X0_draw_35 d Rq) from
  (xv_iload dX0_draw_35
  (xv_iload_n dX0_draw_37 rfl
  (xv_cge dX0_draw_38 rfl
  (xv_iload dX0_draw_117
  (xv_ireturn dX0_draw_119 rfl))
  (xv_iload_n dX0_draw_41 rfl
  (xv_ldcw dX0_draw_42 q1449 rfl (inRd rfl)
  (xv_imul dX0_draw_45
  (xv_sipush dX0_draw_46 rfl (inRd rfl)
  (xv_iadd dX0_draw_49
  (xv_istore_n dX0_draw_50 rfl (Nat.le_of_ble_eq_true rfl)
  (xv_iload_n dX0_draw_51 rfl
  (xv_bipush dX0_draw_52 rfl (inRd rfl)
  (xv_ishr dX0_draw_54
  (xv_sipush dX0_draw_55 rfl (inRd rfl)
  (xv_iand dX0_draw_58
  (xv_istore dX0_draw_59 (Nat.le_of_ble_eq_true rfl)
  (xv_iload dX0_draw_61
  (xv_aload_n dX0_draw_63 rfl
  (xv_iload dX0_draw_64
  (xv_aload_n dX0_draw_66 rfl
  (xv_getR (k := 3) dX0_draw_67 cl_1 tg_1 in_X0 (Nat.le_of_ble_eq_true rfl) rfl q1710
  (xv_getIN (k := 3) dX0_draw_70 cl_2 tg_2 in_X1 (Nat.le_of_ble_eq_true rfl) rfl q201
  (xv_irem dX0_draw_73
  (xv_iload dX0_draw_74
  (xv_bipush dX0_draw_76 rfl (inRd rfl)
  (xv_idiv dX0_draw_78
  (xv_aload_n dX0_draw_79 rfl
  (xv_getR (k := 3) dX0_draw_80 cl_1 tg_1 in_X0 (Nat.le_of_ble_eq_true rfl) rfl q1710
  (xv_getIN (k := 3) dX0_draw_83 cl_2 tg_2 in_X1 (Nat.le_of_ble_eq_true rfl) rfl q201
  (xv_irem dX0_draw_86
  (xv_iload dX0_draw_87
  (xv_bipush dX0_draw_89 rfl (inRd rfl)
  (xv_idiv dX0_draw_91
  (xv_bipush dX0_draw_92 rfl (inRd rfl)
  (xv_irem dX0_draw_94
  (xv_iconst dX0_draw_95 rfl (inRd rfl)
  (xv_iadd dX0_draw_96
  (xv_callV dX0_draw_97 cl_1 tg_1 ok_X0_adds rfl (lw_V q1386 q1388 qs39 q104 q1389))))))))))))))))))))))))))))))))))))))) l st S I h
def tr_X0_draw_100 (d : Nat) (Rq : SmQ) (l : SmL) (st : List SmV) (S : SmS) (I : SmI) : Prop :=
  im_zle l st S I (fun l st S I =>
  im_ic 0 l st S I fun l st S I =>
  im_iadd l st S I fun l st S I =>
  im_istore 4 l st S I fun l st S I =>
  im_iinc 5 1 l st S I fun l st S I =>
  SW mi_X0_draw 35 d Rq l st S I) (fun l st S I =>
  im_ic 1 l st S I fun l st S I =>
  im_iadd l st S I fun l st S I =>
  im_istore 4 l st S I fun l st S I =>
  im_iinc 5 1 l st S I fun l st S I =>
  SW mi_X0_draw 35 d Rq l st S I)
theorem rv_X0_draw_100 {d : Nat} {Rq : SmQ} {l : SmL} {st : List SmV} {S : SmS} {I : SmI} (h : tr_X0_draw_100 d Rq l st S I) : SW mi_X0_draw 100 d Rq l st S I :=
  (show SmW mi_X0_draw 100 d Rq (tr_X0_draw_100 d Rq) from
  (xv_zle dX0_draw_100 rfl
  (xv_iconst dX0_draw_107 rfl (inRd rfl)
  (xv_iadd dX0_draw_108
  (xv_istore dX0_draw_109 (Nat.le_of_ble_eq_true rfl)
  (xv_iinc dX0_draw_111 (Nat.le_of_ble_eq_true rfl)
  (xv_goto dX0_draw_114 rfl (fun _ _ _ _ h => h))))))
  (xv_iconst dX0_draw_103 rfl (inRd rfl)
  (xv_goto dX0_draw_104 rfl (xv_iadd dX0_draw_108
  (xv_istore dX0_draw_109 (Nat.le_of_ble_eq_true rfl)
  (xv_iinc dX0_draw_111 (Nat.le_of_ble_eq_true rfl)
  (xv_goto dX0_draw_114 rfl (fun _ _ _ _ h => h))))))))) l st S I h
