/-! regions of methods, printed by gen/regions.py -/
set_option maxRecDepth 100000
def tr_X6_initB_0 (d : Nat) (Rq : SmQ) (l : SmL) (st : List SmV) (S : SmS) (I : SmI) : Prop :=
  im_aload 0 l st S I fun l st S I =>
  im_objinit l st S I fun l st S I =>
  SW mi_X6_init 4 d Rq l st S I
theorem rv_X6_initB_0 {d : Nat} {Rq : SmQ} {l : SmL} {st : List SmV} {S : SmS} {I : SmI} (h : tr_X6_initB_0 d Rq l st S I) : SW mi_X6_init 0 d Rq l st S I :=
  (show SmW mi_X6_init 0 d Rq (tr_X6_initB_0 d Rq) from
  (xv_aload_n dX6_init_0 rfl
  (xv_objinit dX6_init_1 q1861 q177 q178
  (fun _ _ _ _ h => h)))) l st S I h
def tr_X6_initB_4 (d : Nat) (Rq : SmQ) (l : SmL) (st : List SmV) (S : SmS) (I : SmI) : Prop :=
  im_aload 0 l st S I fun l st S I =>
  im_ic 238 l st S I fun l st S I =>
  im_newa 100 l st S I fun l st S I =>
  im_putR 11 0 l st S I fun l st S I =>
  SW mi_X6_init 13 d Rq l st S I
theorem rv_X6_initB_4 {d : Nat} {Rq : SmQ} {l : SmL} {st : List SmV} {S : SmS} {I : SmI} (h : tr_X6_initB_4 d Rq l st S I) : SW mi_X6_init 4 d Rq l st S I :=
  (show SmW mi_X6_init 4 d Rq (tr_X6_initB_4 d Rq) from
  (xv_aload_n dX6_init_4 rfl
  (xv_sipush dX6_init_5 rfl (inRd rfl)
  (xv_newa dX6_init_8 ⟨(Nat.le_of_ble_eq_true rfl), (Nat.le_of_ble_eq_true rfl)⟩ rfl q248
  (xv_putR (k := 0) dX6_init_10 cl_11 tg_11 in_X6 tyX6_ok nmX6 (Nat.le_of_ble_eq_true rfl) rfl ⟨Or.inl q1862, Or.inr ⟨rfl, rfl, rfl⟩⟩
  (fun _ _ _ _ h => h)))))) l st S I h
def tr_X6_initB_13 (d : Nat) (Rq : SmQ) (l : SmL) (st : List SmV) (S : SmS) (I : SmI) : Prop :=
  im_aload 0 l st S I fun l st S I =>
  im_ic 238 l st S I fun l st S I =>
  im_newa 100 l st S I fun l st S I =>
  im_putR 11 1 l st S I fun l st S I =>
  SW mi_X6_init 22 d Rq l st S I
theorem rv_X6_initB_13 {d : Nat} {Rq : SmQ} {l : SmL} {st : List SmV} {S : SmS} {I : SmI} (h : tr_X6_initB_13 d Rq l st S I) : SW mi_X6_init 13 d Rq l st S I :=
  (show SmW mi_X6_init 13 d Rq (tr_X6_initB_13 d Rq) from
  (xv_aload_n dX6_init_13 rfl
  (xv_sipush dX6_init_14 rfl (inRd rfl)
  (xv_newa dX6_init_17 ⟨(Nat.le_of_ble_eq_true rfl), (Nat.le_of_ble_eq_true rfl)⟩ rfl q248
  (xv_putR (k := 1) dX6_init_19 cl_11 tg_11 in_X6 tyX6_ok nmX6 (Nat.le_of_ble_eq_true rfl) rfl ⟨Or.inl q1863, Or.inr ⟨rfl, rfl, rfl⟩⟩
  (fun _ _ _ _ h => h)))))) l st S I h
def tr_X6_initB_22 (d : Nat) (Rq : SmQ) (l : SmL) (st : List SmV) (S : SmS) (I : SmI) : Prop :=
  im_aload 0 l st S I fun l st S I =>
  im_ic 238 l st S I fun l st S I =>
  im_newa 100 l st S I fun l st S I =>
  im_putR 11 2 l st S I fun l st S I =>
  SW mi_X6_init 31 d Rq l st S I
theorem rv_X6_initB_22 {d : Nat} {Rq : SmQ} {l : SmL} {st : List SmV} {S : SmS} {I : SmI} (h : tr_X6_initB_22 d Rq l st S I) : SW mi_X6_init 22 d Rq l st S I :=
  (show SmW mi_X6_init 22 d Rq (tr_X6_initB_22 d Rq) from
  (xv_aload_n dX6_init_22 rfl
  (xv_sipush dX6_init_23 rfl (inRd rfl)
  (xv_newa dX6_init_26 ⟨(Nat.le_of_ble_eq_true rfl), (Nat.le_of_ble_eq_true rfl)⟩ rfl q248
  (xv_putR (k := 2) dX6_init_28 cl_11 tg_11 in_X6 tyX6_ok nmX6 (Nat.le_of_ble_eq_true rfl) rfl ⟨Or.inl q1864, Or.inr ⟨rfl, rfl, rfl⟩⟩
  (fun _ _ _ _ h => h)))))) l st S I h
def tr_X6_initB_31 (d : Nat) (Rq : SmQ) (l : SmL) (st : List SmV) (S : SmS) (I : SmI) : Prop :=
  im_aload 0 l st S I fun l st S I =>
  im_ic 476 l st S I fun l st S I =>
  im_newa 100 l st S I fun l st S I =>
  im_putR 11 3 l st S I fun l st S I =>
  SW mi_X6_init 40 d Rq l st S I
theorem rv_X6_initB_31 {d : Nat} {Rq : SmQ} {l : SmL} {st : List SmV} {S : SmS} {I : SmI} (h : tr_X6_initB_31 d Rq l st S I) : SW mi_X6_init 31 d Rq l st S I :=
  (show SmW mi_X6_init 31 d Rq (tr_X6_initB_31 d Rq) from
  (xv_aload_n dX6_init_31 rfl
  (xv_sipush dX6_init_32 rfl (inRd rfl)
  (xv_newa dX6_init_35 ⟨(Nat.le_of_ble_eq_true rfl), (Nat.le_of_ble_eq_true rfl)⟩ rfl q248
  (xv_putR (k := 3) dX6_init_37 cl_11 tg_11 in_X6 tyX6_ok nmX6 (Nat.le_of_ble_eq_true rfl) rfl ⟨Or.inl q1865, Or.inr ⟨rfl, rfl, rfl⟩⟩
  (fun _ _ _ _ h => h)))))) l st S I h
def tr_X6_initB_40 (d : Nat) (Rq : SmQ) (l : SmL) (st : List SmV) (S : SmS) (I : SmI) : Prop :=
  im_aload 0 l st S I fun l st S I =>
  im_ic 2 l st S I fun l st S I =>
  im_newa 102 l st S I fun l st S I =>
  im_putR 11 4 l st S I fun l st S I =>
  SW mi_X6_init 47 d Rq l st S I
theorem rv_X6_initB_40 {d : Nat} {Rq : SmQ} {l : SmL} {st : List SmV} {S : SmS} {I : SmI} (h : tr_X6_initB_40 d Rq l st S I) : SW mi_X6_init 40 d Rq l st S I :=
  (show SmW mi_X6_init 40 d Rq (tr_X6_initB_40 d Rq) from
  (xv_aload_n dX6_init_40 rfl
  (xv_iconst dX6_init_41 rfl (inRd rfl)
  (xv_newa dX6_init_42 ⟨(Nat.le_of_ble_eq_true rfl), (Nat.le_of_ble_eq_true rfl)⟩ rfl q249
  (xv_putR (k := 4) dX6_init_44 cl_11 tg_11 in_X6 tyX6_ok nmX6 (Nat.le_of_ble_eq_true rfl) rfl ⟨Or.inl q1866, Or.inr ⟨rfl, rfl, rfl⟩⟩
  (fun _ _ _ _ h => h)))))) l st S I h
def tr_X6_initB_47 (d : Nat) (Rq : SmQ) (l : SmL) (st : List SmV) (S : SmS) (I : SmI) : Prop :=
  im_aload 0 l st S I fun l st S I =>
  im_ic 160 l st S I fun l st S I =>
  im_newa 100 l st S I fun l st S I =>
  im_putR 11 5 l st S I fun l st S I =>
  SW mi_X6_init 56 d Rq l st S I
theorem rv_X6_initB_47 {d : Nat} {Rq : SmQ} {l : SmL} {st : List SmV} {S : SmS} {I : SmI} (h : tr_X6_initB_47 d Rq l st S I) : SW mi_X6_init 47 d Rq l st S I :=
  (show SmW mi_X6_init 47 d Rq (tr_X6_initB_47 d Rq) from
  (xv_aload_n dX6_init_47 rfl
  (xv_sipush dX6_init_48 rfl (inRd rfl)
  (xv_newa dX6_init_51 ⟨(Nat.le_of_ble_eq_true rfl), (Nat.le_of_ble_eq_true rfl)⟩ rfl q248
  (xv_putR (k := 5) dX6_init_53 cl_11 tg_11 in_X6 tyX6_ok nmX6 (Nat.le_of_ble_eq_true rfl) rfl ⟨Or.inl q1867, Or.inr ⟨rfl, rfl, rfl⟩⟩
  (fun _ _ _ _ h => h)))))) l st S I h
def tr_X6_initB_56 (d : Nat) (Rq : SmQ) (l : SmL) (st : List SmV) (S : SmS) (I : SmI) : Prop :=
  im_aload 0 l st S I fun l st S I =>
  im_ic 4 l st S I fun l st S I =>
  im_newa 100 l st S I fun l st S I =>
  im_putR 11 13 l st S I fun l st S I =>
  SW mi_X6_init 63 d Rq l st S I
theorem rv_X6_initB_56 {d : Nat} {Rq : SmQ} {l : SmL} {st : List SmV} {S : SmS} {I : SmI} (h : tr_X6_initB_56 d Rq l st S I) : SW mi_X6_init 56 d Rq l st S I :=
  (show SmW mi_X6_init 56 d Rq (tr_X6_initB_56 d Rq) from
  (xv_aload_n dX6_init_56 rfl
  (xv_iconst dX6_init_57 rfl (inRd rfl)
  (xv_newa dX6_init_58 ⟨(Nat.le_of_ble_eq_true rfl), (Nat.le_of_ble_eq_true rfl)⟩ rfl q248
  (xv_putR (k := 13) dX6_init_60 cl_11 tg_11 in_X6 tyX6_ok nmX6 (Nat.le_of_ble_eq_true rfl) rfl ⟨Or.inl q1875, Or.inr ⟨rfl, rfl, rfl⟩⟩
  (fun _ _ _ _ h => h)))))) l st S I h
def tr_X6_initB_63 (d : Nat) (Rq : SmQ) (l : SmL) (st : List SmV) (S : SmS) (I : SmI) : Prop :=
  im_aload 0 l st S I fun l st S I =>
  im_ic 2401 l st S I fun l st S I =>
  im_newa 100 l st S I fun l st S I =>
  im_putR 11 14 l st S I fun l st S I =>
  SW mi_X6_init 72 d Rq l st S I
theorem rv_X6_initB_63 {d : Nat} {Rq : SmQ} {l : SmL} {st : List SmV} {S : SmS} {I : SmI} (h : tr_X6_initB_63 d Rq l st S I) : SW mi_X6_init 63 d Rq l st S I :=
  (show SmW mi_X6_init 63 d Rq (tr_X6_initB_63 d Rq) from
  (xv_aload_n dX6_init_63 rfl
  (xv_sipush dX6_init_64 rfl (inRd rfl)
  (xv_newa dX6_init_67 ⟨(Nat.le_of_ble_eq_true rfl), (Nat.le_of_ble_eq_true rfl)⟩ rfl q248
  (xv_putR (k := 14) dX6_init_69 cl_11 tg_11 in_X6 tyX6_ok nmX6 (Nat.le_of_ble_eq_true rfl) rfl ⟨Or.inl q1876, Or.inr ⟨rfl, rfl, rfl⟩⟩
  (fun _ _ _ _ h => h)))))) l st S I h
def tr_X6_initB_72 (d : Nat) (Rq : SmQ) (l : SmL) (st : List SmV) (S : SmS) (I : SmI) : Prop :=
  im_aload 0 l st S I fun l st S I =>
  im_ic 2401 l st S I fun l st S I =>
  im_newa 102 l st S I fun l st S I =>
  im_putR 11 15 l st S I fun l st S I =>
  SW mi_X6_init 81 d Rq l st S I
theorem rv_X6_initB_72 {d : Nat} {Rq : SmQ} {l : SmL} {st : List SmV} {S : SmS} {I : SmI} (h : tr_X6_initB_72 d Rq l st S I) : SW mi_X6_init 72 d Rq l st S I :=
  (show SmW mi_X6_init 72 d Rq (tr_X6_initB_72 d Rq) from
  (xv_aload_n dX6_init_72 rfl
  (xv_sipush dX6_init_73 rfl (inRd rfl)
  (xv_newa dX6_init_76 ⟨(Nat.le_of_ble_eq_true rfl), (Nat.le_of_ble_eq_true rfl)⟩ rfl q249
  (xv_putR (k := 15) dX6_init_78 cl_11 tg_11 in_X6 tyX6_ok nmX6 (Nat.le_of_ble_eq_true rfl) rfl ⟨Or.inl q1877, Or.inr ⟨rfl, rfl, rfl⟩⟩
  (fun _ _ _ _ h => h)))))) l st S I h
def tr_X6_initB_81 (d : Nat) (Rq : SmQ) (l : SmL) (st : List SmV) (S : SmS) (I : SmI) : Prop :=
  im_aload 0 l st S I fun l st S I =>
  im_ic 2401 l st S I fun l st S I =>
  im_newa 102 l st S I fun l st S I =>
  im_putR 11 16 l st S I fun l st S I =>
  SW mi_X6_init 90 d Rq l st S I
theorem rv_X6_initB_81 {d : Nat} {Rq : SmQ} {l : SmL} {st : List SmV} {S : SmS} {I : SmI} (h : tr_X6_initB_81 d Rq l st S I) : SW mi_X6_init 81 d Rq l st S I :=
  (show SmW mi_X6_init 81 d Rq (tr_X6_initB_81 d Rq) from
  (xv_aload_n dX6_init_81 rfl
  (xv_sipush dX6_init_82 rfl (inRd rfl)
  (xv_newa dX6_init_85 ⟨(Nat.le_of_ble_eq_true rfl), (Nat.le_of_ble_eq_true rfl)⟩ rfl q249
  (xv_putR (k := 16) dX6_init_87 cl_11 tg_11 in_X6 tyX6_ok nmX6 (Nat.le_of_ble_eq_true rfl) rfl ⟨Or.inl q1878, Or.inr ⟨rfl, rfl, rfl⟩⟩
  (fun _ _ _ _ h => h)))))) l st S I h
def tr_X6_initB_90 (d : Nat) (Rq : SmQ) (l : SmL) (st : List SmV) (S : SmS) (I : SmI) : Prop :=
  im_aload 0 l st S I fun l st S I =>
  im_ic 4 l st S I fun l st S I =>
  im_newa 100 l st S I fun l st S I =>
  im_putR 11 18 l st S I fun l st S I =>
  SW mi_X6_init 97 d Rq l st S I
theorem rv_X6_initB_90 {d : Nat} {Rq : SmQ} {l : SmL} {st : List SmV} {S : SmS} {I : SmI} (h : tr_X6_initB_90 d Rq l st S I) : SW mi_X6_init 90 d Rq l st S I :=
  (show SmW mi_X6_init 90 d Rq (tr_X6_initB_90 d Rq) from
  (xv_aload_n dX6_init_90 rfl
  (xv_iconst dX6_init_91 rfl (inRd rfl)
  (xv_newa dX6_init_92 ⟨(Nat.le_of_ble_eq_true rfl), (Nat.le_of_ble_eq_true rfl)⟩ rfl q248
  (xv_putR (k := 18) dX6_init_94 cl_11 tg_11 in_X6 tyX6_ok nmX6 (Nat.le_of_ble_eq_true rfl) rfl ⟨Or.inl q1880, Or.inr ⟨rfl, rfl, rfl⟩⟩
  (fun _ _ _ _ h => h)))))) l st S I h
def tr_X6_initB_97 (d : Nat) (Rq : SmQ) (l : SmL) (st : List SmV) (S : SmS) (I : SmI) : Prop :=
  im_aload 0 l st S I fun l st S I =>
  im_ic 4 l st S I fun l st S I =>
  im_newa 100 l st S I fun l st S I =>
  im_putR 11 20 l st S I fun l st S I =>
  SW mi_X6_init 104 d Rq l st S I
theorem rv_X6_initB_97 {d : Nat} {Rq : SmQ} {l : SmL} {st : List SmV} {S : SmS} {I : SmI} (h : tr_X6_initB_97 d Rq l st S I) : SW mi_X6_init 97 d Rq l st S I :=
  (show SmW mi_X6_init 97 d Rq (tr_X6_initB_97 d Rq) from
  (xv_aload_n dX6_init_97 rfl
  (xv_iconst dX6_init_98 rfl (inRd rfl)
  (xv_newa dX6_init_99 ⟨(Nat.le_of_ble_eq_true rfl), (Nat.le_of_ble_eq_true rfl)⟩ rfl q248
  (xv_putR (k := 20) dX6_init_101 cl_11 tg_11 in_X6 tyX6_ok nmX6 (Nat.le_of_ble_eq_true rfl) rfl ⟨Or.inl q1882, Or.inr ⟨rfl, rfl, rfl⟩⟩
  (fun _ _ _ _ h => h)))))) l st S I h
def tr_X6_initB_104 (d : Nat) (Rq : SmQ) (l : SmL) (st : List SmV) (S : SmS) (I : SmI) : Prop :=
  im_aload 0 l st S I fun l st S I =>
  im_ic 4 l st S I fun l st S I =>
  im_newa 100 l st S I fun l st S I =>
  im_putR 11 21 l st S I fun l st S I =>
  SW mi_X6_init 111 d Rq l st S I
theorem rv_X6_initB_104 {d : Nat} {Rq : SmQ} {l : SmL} {st : List SmV} {S : SmS} {I : SmI} (h : tr_X6_initB_104 d Rq l st S I) : SW mi_X6_init 104 d Rq l st S I :=
  (show SmW mi_X6_init 104 d Rq (tr_X6_initB_104 d Rq) from
  (xv_aload_n dX6_init_104 rfl
  (xv_iconst dX6_init_105 rfl (inRd rfl)
  (xv_newa dX6_init_106 ⟨(Nat.le_of_ble_eq_true rfl), (Nat.le_of_ble_eq_true rfl)⟩ rfl q248
  (xv_putR (k := 21) dX6_init_108 cl_11 tg_11 in_X6 tyX6_ok nmX6 (Nat.le_of_ble_eq_true rfl) rfl ⟨Or.inl q1883, Or.inr ⟨rfl, rfl, rfl⟩⟩
  (fun _ _ _ _ h => h)))))) l st S I h
def tr_X6_initB_111 (d : Nat) (Rq : SmQ) (l : SmL) (st : List SmV) (S : SmS) (I : SmI) : Prop :=
  im_aload 0 l st S I fun l st S I =>
  im_ic 160 l st S I fun l st S I =>
  im_newa 100 l st S I fun l st S I =>
  im_putR 11 22 l st S I fun l st S I =>
  SW mi_X6_init 120 d Rq l st S I
theorem rv_X6_initB_111 {d : Nat} {Rq : SmQ} {l : SmL} {st : List SmV} {S : SmS} {I : SmI} (h : tr_X6_initB_111 d Rq l st S I) : SW mi_X6_init 111 d Rq l st S I :=
  (show SmW mi_X6_init 111 d Rq (tr_X6_initB_111 d Rq) from
  (xv_aload_n dX6_init_111 rfl
  (xv_sipush dX6_init_112 rfl (inRd rfl)
  (xv_newa dX6_init_115 ⟨(Nat.le_of_ble_eq_true rfl), (Nat.le_of_ble_eq_true rfl)⟩ rfl q248
  (xv_putR (k := 22) dX6_init_117 cl_11 tg_11 in_X6 tyX6_ok nmX6 (Nat.le_of_ble_eq_true rfl) rfl ⟨Or.inl q1884, Or.inr ⟨rfl, rfl, rfl⟩⟩
  (fun _ _ _ _ h => h)))))) l st S I h
def tr_X6_initB_120 (d : Nat) (Rq : SmQ) (l : SmL) (st : List SmV) (S : SmS) (I : SmI) : Prop :=
  im_ic 0 l st S I fun l st S I =>
  im_istore 1 l st S I fun l st S I =>
  SW mi_X6_init 122 d Rq l st S I
theorem rv_X6_initB_120 {d : Nat} {Rq : SmQ} {l : SmL} {st : List SmV} {S : SmS} {I : SmI} (h : tr_X6_initB_120 d Rq l st S I) : SW mi_X6_init 120 d Rq l st S I :=
  (show SmW mi_X6_init 120 d Rq (tr_X6_initB_120 d Rq) from
  (xv_iconst dX6_init_120 rfl (inRd rfl)
  (xv_istore_n dX6_init_121 rfl (Nat.le_of_ble_eq_true rfl)
  (fun _ _ _ _ h => h)))) l st S I h
def tr_X6_initB_122 (d : Nat) (Rq : SmQ) (l : SmL) (st : List SmV) (S : SmS) (I : SmI) : Prop :=
  im_iload 1 l st S I fun l st S I =>
  im_ic 4 l st S I fun l st S I =>
  im_cge l st S I (fun l st S I =>
  im_return Rq l st S I) (fun l st S I =>
  im_aload 0 l st S I fun l st S I =>
  im_getR 11 20 l st S I fun l st S I =>
  im_iload 1 l st S I fun l st S I =>
  im_ic (-4) l st S I fun l st S I =>
  im_iast l st S I fun l st S I =>
  im_iinc 1 1 l st S I fun l st S I =>
  SW mi_X6_init 122 d Rq l st S I)
theorem rv_X6_initB_122 {d : Nat} {Rq : SmQ} {l : SmL} {st : List SmV} {S : SmS} {I : SmI} (h : tr_X6_initB_122 d Rq l st S I) : SW mi_X6_init 122 d Rq l st S I :=
  (show SmW mi_X6_init 122 d Rq (tr_X6_initB_122 d Rq) from
  (xv_iload_n dX6_init_122 rfl
  (xv_iconst dX6_init_123 rfl (inRd rfl)
  (xv_cge dX6_init_124 rfl
  (xv_return dX6_init_141 rfl)
  (xv_aload_n dX6_init_127 rfl
  (xv_getR (k := 20) dX6_init_128 cl_11 tg_11 in_X6 (Nat.le_of_ble_eq_true rfl) rfl q1882
  (xv_iload_n dX6_init_131 rfl
  (xv_bipush dX6_init_132 rfl (inRd rfl)
  (xv_iast dX6_init_134
  (xv_iinc dX6_init_135 (Nat.le_of_ble_eq_true rfl)
  (xv_goto dX6_init_138 rfl (fun _ _ _ _ h => h)))))))))))) l st S I h
