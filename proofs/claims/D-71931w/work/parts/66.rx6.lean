/-! regions of methods, printed by gen/regions.py -/
set_option maxRecDepth 100000
def tr_X6_readB_0 (d : Nat) (Rq : SmQ) (l : SmL) (st : List SmV) (S : SmS) (I : SmI) : Prop :=
  im_iload 1 l st S I fun l st S I =>
  im_iload 2 l st S I fun l st S I =>
  im_p_X6_isSheet d l st S I fun l st S I =>
  im_zeq l st S I (fun l st S I =>
  im_ic (-1) l st S I fun l st S I =>
  im_ireturn Rq l st S I) (fun l st S I =>
  im_iload 4 l st S I fun l st S I =>
  im_i2l l st S I fun l st S I =>
  im_lc 0 l st S I fun l st S I =>
  im_lc 10 l st S I fun l st S I =>
  im_p_X6_in d l st S I fun l st S I =>
  im_zne l st S I (fun l st S I =>
  im_aload 0 l st S I fun l st S I =>
  im_callV 0 11 mi_X6_keepBefore d (retK mi_X6_read 24 27 d Rq l) st S I) (fun l st S I =>
  im_ic (-1) l st S I fun l st S I =>
  im_ireturn Rq l st S I))
theorem rv_X6_readB_0 {d : Nat} {Rq : SmQ} {l : SmL} {st : List SmV} {S : SmS} {I : SmI} (h : tr_X6_readB_0 d Rq l st S I) : SW mi_X6_read 0 d Rq l st S I :=
  (show SmW mi_X6_read 0 d Rq (tr_X6_readB_0 d Rq) from
  (xv_iload_n dX6_read_0 rfl
  (xv_iload_n dX6_read_1 rfl
  (xv_p_X6_isSheet dX6_read_2 (lw_S q2267 q2268 q117 q2269)
  (xv_zeq dX6_read_5 rfl
  (xv_iconst dX6_read_21 rfl (inRd rfl)
  (xv_ireturn dX6_read_22 rfl))
  (xv_iload dX6_read_8
  (xv_i2l dX6_read_10
  (xv_lconst dX6_read_11 rfl (inR64d rfl)
  (xv_ldc2 dX6_read_12 q2279 rfl (inR64d rfl)
  (xv_p_X6_in dX6_read_15 (lw_S q1940 q1941 q117 q1942)
  (xv_zne dX6_read_18 rfl
  (xv_aload_n dX6_read_23 rfl
  (xv_callV dX6_read_24 cl_11 tg_11 ok_X6_keepBefore rfl (lw_V q1995 q1997 qs57 q117 q1998)))
  (xv_iconst dX6_read_21 rfl (inRd rfl)
  (xv_ireturn dX6_read_22 rfl))))))))))))) l st S I h
def tr_X6_readB_27 (d : Nat) (Rq : SmQ) (l : SmL) (st : List SmV) (S : SmS) (I : SmI) : Prop :=
  im_ic 0 l st S I fun l st S I =>
  im_istore 5 l st S I fun l st S I =>
  im_ic 0 l st S I fun l st S I =>
  im_istore 6 l st S I fun l st S I =>
  im_ic 0 l st S I fun l st S I =>
  im_istore 7 l st S I fun l st S I =>
  SW mi_X6_read 36 d Rq l st S I
theorem rv_X6_readB_27 {d : Nat} {Rq : SmQ} {l : SmL} {st : List SmV} {S : SmS} {I : SmI} (h : tr_X6_readB_27 d Rq l st S I) : SW mi_X6_read 27 d Rq l st S I :=
  (show SmW mi_X6_read 27 d Rq (tr_X6_readB_27 d Rq) from
  (xv_iconst dX6_read_27 rfl (inRd rfl)
  (xv_istore dX6_read_28 (Nat.le_of_ble_eq_true rfl)
  (xv_iconst dX6_read_30 rfl (inRd rfl)
  (xv_istore dX6_read_31 (Nat.le_of_ble_eq_true rfl)
  (xv_iconst dX6_read_33 rfl (inRd rfl)
  (xv_istore dX6_read_34 (Nat.le_of_ble_eq_true rfl)
  (fun _ _ _ _ h => h)))))))) l st S I h
def tr_X6_readB_36 (d : Nat) (Rq : SmQ) (l : SmL) (st : List SmV) (S : SmS) (I : SmI) : Prop :=
  im_iload 7 l st S I fun l st S I =>
  im_iload 4 l st S I fun l st S I =>
  im_cge l st S I (fun l st S I =>
  im_aload 0 l st S I fun l st S I =>
  im_iload 5 l st S I fun l st S I =>
  im_putI 11 23 l st S I fun l st S I =>
  im_iload 6 l st S I fun l st S I =>
  im_ireturn Rq l st S I) (fun l st S I =>
  im_iload 5 l st S I fun l st S I =>
  im_zne l st S I (fun l st S I =>
  im_aload 0 l st S I fun l st S I =>
  im_iload 5 l st S I fun l st S I =>
  im_putI 11 23 l st S I fun l st S I =>
  im_iload 6 l st S I fun l st S I =>
  im_ireturn Rq l st S I) (fun l st S I =>
  im_ic 0 l st S I fun l st S I =>
  im_istore 8 l st S I fun l st S I =>
  SW mi_X6_read 51 d Rq l st S I))
theorem rv_X6_readB_36 {d : Nat} {Rq : SmQ} {l : SmL} {st : List SmV} {S : SmS} {I : SmI} (h : tr_X6_readB_36 d Rq l st S I) : SW mi_X6_read 36 d Rq l st S I :=
  (show SmW mi_X6_read 36 d Rq (tr_X6_readB_36 d Rq) from
  (xv_iload dX6_read_36
  (xv_iload dX6_read_38
  (xv_cge dX6_read_40 rfl
  (xv_aload_n dX6_read_207 rfl
  (xv_iload dX6_read_208
  (xv_putI (k := 23) dX6_read_210 cl_11 tg_11 in_X6 tyX6_ok nmX6 (Nat.le_of_ble_eq_true rfl) rfl ⟨Or.inl q1885, Or.inl rfl⟩
  (xv_iload dX6_read_213
  (xv_ireturn dX6_read_215 rfl)))))
  (xv_iload dX6_read_43
  (xv_zne dX6_read_45 rfl
  (xv_aload_n dX6_read_207 rfl
  (xv_iload dX6_read_208
  (xv_putI (k := 23) dX6_read_210 cl_11 tg_11 in_X6 tyX6_ok nmX6 (Nat.le_of_ble_eq_true rfl) rfl ⟨Or.inl q1885, Or.inl rfl⟩
  (xv_iload dX6_read_213
  (xv_ireturn dX6_read_215 rfl)))))
  (xv_iconst dX6_read_48 rfl (inRd rfl)
  (xv_istore dX6_read_49 (Nat.le_of_ble_eq_true rfl)
  (fun _ _ _ _ h => h))))))))) l st S I h
def tr_X6_readB_51 (d : Nat) (Rq : SmQ) (l : SmL) (st : List SmV) (S : SmS) (I : SmI) : Prop :=
  im_iload 8 l st S I fun l st S I =>
  im_ic 3 l st S I fun l st S I =>
  im_cge l st S I (fun l st S I =>
  SW mi_X6_read 138 d Rq l st S I) (fun l st S I =>
  im_iload 5 l st S I fun l st S I =>
  im_zne l st S I (fun l st S I =>
  SW mi_X6_read 138 d Rq l st S I) (fun l st S I =>
  im_iload 3 l st S I fun l st S I =>
  im_i2l l st S I fun l st S I =>
  im_ic 3 l st S I fun l st S I =>
  im_iload 7 l st S I fun l st S I =>
  im_imul l st S I fun l st S I =>
  im_i2l l st S I fun l st S I =>
  im_ladd l st S I fun l st S I =>
  im_iload 8 l st S I fun l st S I =>
  im_i2l l st S I fun l st S I =>
  im_ladd l st S I fun l st S I =>
  im_lstore 9 l st S I fun l st S I =>
  im_aload 0 l st S I fun l st S I =>
  im_getR 11 20 l st S I fun l st S I =>
  im_iload 1 l st S I fun l st S I =>
  im_ald 100 l st S I fun l st S I =>
  im_ic (-4) l st S I fun l st S I =>
  im_cne l st S I (fun l st S I =>
  im_aload 0 l st S I fun l st S I =>
  im_getR 11 20 l st S I fun l st S I =>
  im_iload 1 l st S I fun l st S I =>
  im_ald 100 l st S I fun l st S I =>
  im_iload 2 l st S I fun l st S I =>
  im_ceq l st S I (fun l st S I =>
  im_lload 9 l st S I fun l st S I =>
  im_lc 0 l st S I fun l st S I =>
  im_lcmp l st S I fun l st S I =>
  im_zlt l st S I (fun l st S I =>
  im_ic 2 l st S I fun l st S I =>
  im_istore 5 l st S I fun l st S I =>
  im_iinc 8 1 l st S I fun l st S I =>
  SW mi_X6_read 51 d Rq l st S I) (fun l st S I =>
  im_lload 9 l st S I fun l st S I =>
  im_aload 0 l st S I fun l st S I =>
  im_getR 11 21 l st S I fun l st S I =>
  im_iload 1 l st S I fun l st S I =>
  im_ald 100 l st S I fun l st S I =>
  im_i2l l st S I fun l st S I =>
  im_lcmp l st S I fun l st S I =>
  im_zlt l st S I (fun l st S I =>
  im_ic 0 l st S I fun l st S I =>
  im_istore 5 l st S I fun l st S I =>
  im_iinc 8 1 l st S I fun l st S I =>
  SW mi_X6_read 51 d Rq l st S I) (fun l st S I =>
  im_ic 2 l st S I fun l st S I =>
  im_istore 5 l st S I fun l st S I =>
  im_iinc 8 1 l st S I fun l st S I =>
  SW mi_X6_read 51 d Rq l st S I))) (fun l st S I =>
  im_ic 3 l st S I fun l st S I =>
  im_istore 5 l st S I fun l st S I =>
  im_iinc 8 1 l st S I fun l st S I =>
  SW mi_X6_read 51 d Rq l st S I)) (fun l st S I =>
  im_ic 1 l st S I fun l st S I =>
  im_istore 5 l st S I fun l st S I =>
  im_iinc 8 1 l st S I fun l st S I =>
  SW mi_X6_read 51 d Rq l st S I)))
theorem rv_X6_readB_51 {d : Nat} {Rq : SmQ} {l : SmL} {st : List SmV} {S : SmS} {I : SmI} (h : tr_X6_readB_51 d Rq l st S I) : SW mi_X6_read 51 d Rq l st S I :=
  (show SmW mi_X6_read 51 d Rq (tr_X6_readB_51 d Rq) from
  (xv_iload dX6_read_51
  (xv_iconst dX6_read_53 rfl (inRd rfl)
  (xv_cge dX6_read_54 rfl
  (fun _ _ _ _ h => h)
  (xv_iload dX6_read_57
  (xv_zne dX6_read_59 rfl
  (fun _ _ _ _ h => h)
  (xv_iload_n dX6_read_62 rfl
  (xv_i2l dX6_read_63
  (xv_iconst dX6_read_64 rfl (inRd rfl)
  (xv_iload dX6_read_65
  (xv_imul dX6_read_67
  (xv_i2l dX6_read_68
  (xv_ladd dX6_read_69
  (xv_iload dX6_read_70
  (xv_i2l dX6_read_72
  (xv_ladd dX6_read_73
  (xv_lstore dX6_read_74 (Nat.le_of_ble_eq_true rfl)
  (xv_aload_n dX6_read_76 rfl
  (xv_getR (k := 20) dX6_read_77 cl_11 tg_11 in_X6 (Nat.le_of_ble_eq_true rfl) rfl q1882
  (xv_iload_n dX6_read_80 rfl
  (xv_iald dX6_read_81
  (xv_bipush dX6_read_82 rfl (inRd rfl)
  (xv_cne dX6_read_84 rfl
  (xv_aload_n dX6_read_91 rfl
  (xv_getR (k := 20) dX6_read_92 cl_11 tg_11 in_X6 (Nat.le_of_ble_eq_true rfl) rfl q1882
  (xv_iload_n dX6_read_95 rfl
  (xv_iald dX6_read_96
  (xv_iload_n dX6_read_97 rfl
  (xv_ceq dX6_read_98 rfl
  (xv_lload dX6_read_105
  (xv_lconst dX6_read_107 rfl (inR64d rfl)
  (xv_lcmp dX6_read_108
  (xv_zlt dX6_read_109 rfl
  (xv_iconst dX6_read_125 rfl (inRd rfl)
  (xv_goto dX6_read_126 rfl (xv_istore dX6_read_130 (Nat.le_of_ble_eq_true rfl)
  (xv_iinc dX6_read_132 (Nat.le_of_ble_eq_true rfl)
  (xv_goto dX6_read_135 rfl (fun _ _ _ _ h => h))))))
  (xv_lload dX6_read_112
  (xv_aload_n dX6_read_114 rfl
  (xv_getR (k := 21) dX6_read_115 cl_11 tg_11 in_X6 (Nat.le_of_ble_eq_true rfl) rfl q1883
  (xv_iload_n dX6_read_118 rfl
  (xv_iald dX6_read_119
  (xv_i2l dX6_read_120
  (xv_lcmp dX6_read_121
  (xv_zlt dX6_read_122 rfl
  (xv_iconst dX6_read_129 rfl (inRd rfl)
  (xv_istore dX6_read_130 (Nat.le_of_ble_eq_true rfl)
  (xv_iinc dX6_read_132 (Nat.le_of_ble_eq_true rfl)
  (xv_goto dX6_read_135 rfl (fun _ _ _ _ h => h)))))
  (xv_iconst dX6_read_125 rfl (inRd rfl)
  (xv_goto dX6_read_126 rfl (xv_istore dX6_read_130 (Nat.le_of_ble_eq_true rfl)
  (xv_iinc dX6_read_132 (Nat.le_of_ble_eq_true rfl)
  (xv_goto dX6_read_135 rfl (fun _ _ _ _ h => h))))))))))))))))))
  (xv_iconst dX6_read_101 rfl (inRd rfl)
  (xv_goto dX6_read_102 rfl (xv_istore dX6_read_130 (Nat.le_of_ble_eq_true rfl)
  (xv_iinc dX6_read_132 (Nat.le_of_ble_eq_true rfl)
  (xv_goto dX6_read_135 rfl (fun _ _ _ _ h => h))))))))))))
  (xv_iconst dX6_read_87 rfl (inRd rfl)
  (xv_goto dX6_read_88 rfl (xv_istore dX6_read_130 (Nat.le_of_ble_eq_true rfl)
  (xv_iinc dX6_read_132 (Nat.le_of_ble_eq_true rfl)
  (xv_goto dX6_read_135 rfl (fun _ _ _ _ h => h))))))))))))))))))))))))))))) l st S I h
def tr_X6_readB_138 (d : Nat) (Rq : SmQ) (l : SmL) (st : List SmV) (S : SmS) (I : SmI) : Prop :=
  im_iload 5 l st S I fun l st S I =>
  im_zne l st S I (fun l st S I =>
  im_iinc 7 1 l st S I fun l st S I =>
  SW mi_X6_read 36 d Rq l st S I) (fun l st S I =>
  im_ic 40 l st S I fun l st S I =>
  im_iload 1 l st S I fun l st S I =>
  im_imul l st S I fun l st S I =>
  im_iload 3 l st S I fun l st S I =>
  im_iadd l st S I fun l st S I =>
  im_ic 3 l st S I fun l st S I =>
  im_iload 7 l st S I fun l st S I =>
  im_imul l st S I fun l st S I =>
  im_iadd l st S I fun l st S I =>
  SW mi_X6_read 154 d Rq l st S I)
theorem rv_X6_readB_138 {d : Nat} {Rq : SmQ} {l : SmL} {st : List SmV} {S : SmS} {I : SmI} (h : tr_X6_readB_138 d Rq l st S I) : SW mi_X6_read 138 d Rq l st S I :=
  (show SmW mi_X6_read 138 d Rq (tr_X6_readB_138 d Rq) from
  (xv_iload dX6_read_138
  (xv_zne dX6_read_140 rfl
  (xv_iinc dX6_read_201 (Nat.le_of_ble_eq_true rfl)
  (xv_goto dX6_read_204 rfl (fun _ _ _ _ h => h)))
  (xv_bipush dX6_read_143 rfl (inRd rfl)
  (xv_iload_n dX6_read_145 rfl
  (xv_imul dX6_read_146
  (xv_iload_n dX6_read_147 rfl
  (xv_iadd dX6_read_148
  (xv_iconst dX6_read_149 rfl (inRd rfl)
  (xv_iload dX6_read_150
  (xv_imul dX6_read_152
  (xv_iadd dX6_read_153
  (fun _ _ _ _ h => h))))))))))))) l st S I h
def tr_X6_readB_154 (d : Nat) (Rq : SmQ) (l : SmL) (st : List SmV) (S : SmS) (I : SmI) : Prop :=
  im_istore 8 l st S I fun l st S I =>
  im_aload 0 l st S I fun l st S I =>
  im_aload 0 l st S I fun l st S I =>
  im_getR 11 22 l st S I fun l st S I =>
  im_iload 8 l st S I fun l st S I =>
  im_ald 100 l st S I fun l st S I =>
  im_aload 0 l st S I fun l st S I =>
  im_getR 11 22 l st S I fun l st S I =>
  im_iload 8 l st S I fun l st S I =>
  im_ic 1 l st S I fun l st S I =>
  im_iadd l st S I fun l st S I =>
  im_ald 100 l st S I fun l st S I =>
  im_aload 0 l st S I fun l st S I =>
  im_getR 11 22 l st S I fun l st S I =>
  im_iload 8 l st S I fun l st S I =>
  im_ic 2 l st S I fun l st S I =>
  im_iadd l st S I fun l st S I =>
  im_ald 100 l st S I fun l st S I =>
  im_callV 3 11 mi_X6_add d (retK mi_X6_read 182 185 d Rq l) st S I
theorem rv_X6_readB_154 {d : Nat} {Rq : SmQ} {l : SmL} {st : List SmV} {S : SmS} {I : SmI} (h : tr_X6_readB_154 d Rq l st S I) : SW mi_X6_read 154 d Rq l st S I :=
  (show SmW mi_X6_read 154 d Rq (tr_X6_readB_154 d Rq) from
  (xv_istore dX6_read_154 (Nat.le_of_ble_eq_true rfl)
  (xv_aload_n dX6_read_156 rfl
  (xv_aload_n dX6_read_157 rfl
  (xv_getR (k := 22) dX6_read_158 cl_11 tg_11 in_X6 (Nat.le_of_ble_eq_true rfl) rfl q1884
  (xv_iload dX6_read_161
  (xv_iald dX6_read_163
  (xv_aload_n dX6_read_164 rfl
  (xv_getR (k := 22) dX6_read_165 cl_11 tg_11 in_X6 (Nat.le_of_ble_eq_true rfl) rfl q1884
  (xv_iload dX6_read_168
  (xv_iconst dX6_read_170 rfl (inRd rfl)
  (xv_iadd dX6_read_171
  (xv_iald dX6_read_172
  (xv_aload_n dX6_read_173 rfl
  (xv_getR (k := 22) dX6_read_174 cl_11 tg_11 in_X6 (Nat.le_of_ble_eq_true rfl) rfl q1884
  (xv_iload dX6_read_177
  (xv_iconst dX6_read_179 rfl (inRd rfl)
  (xv_iadd dX6_read_180
  (xv_iald dX6_read_181
  (xv_callV dX6_read_182 cl_11 tg_11 ok_X6_add rfl (lw_V q2254 q2232 q2233 q117 q2234))))))))))))))))))))) l st S I h
def tr_X6_readB_185 (d : Nat) (Rq : SmQ) (l : SmL) (st : List SmV) (S : SmS) (I : SmI) : Prop :=
  im_zge l st S I (fun l st S I =>
  im_iinc 6 1 l st S I fun l st S I =>
  im_iinc 7 1 l st S I fun l st S I =>
  SW mi_X6_read 36 d Rq l st S I) (fun l st S I =>
  im_aload 0 l st S I fun l st S I =>
  im_callV 0 11 mi_X6_backBefore d (retK mi_X6_read 189 192 d Rq l) st S I)
theorem rv_X6_readB_185 {d : Nat} {Rq : SmQ} {l : SmL} {st : List SmV} {S : SmS} {I : SmI} (h : tr_X6_readB_185 d Rq l st S I) : SW mi_X6_read 185 d Rq l st S I :=
  (show SmW mi_X6_read 185 d Rq (tr_X6_readB_185 d Rq) from
  (xv_zge dX6_read_185 rfl
  (xv_iinc dX6_read_198 (Nat.le_of_ble_eq_true rfl)
  (xv_iinc dX6_read_201 (Nat.le_of_ble_eq_true rfl)
  (xv_goto dX6_read_204 rfl (fun _ _ _ _ h => h))))
  (xv_aload_n dX6_read_188 rfl
  (xv_callV dX6_read_189 cl_11 tg_11 ok_X6_backBefore rfl (lw_V q2065 q2067 qs73 q117 q2068))))) l st S I h
def tr_X6_readB_192 (d : Nat) (Rq : SmQ) (l : SmL) (st : List SmV) (S : SmS) (I : SmI) : Prop :=
  im_ic (-20) l st S I fun l st S I =>
  im_iload 7 l st S I fun l st S I =>
  im_isub l st S I fun l st S I =>
  im_ireturn Rq l st S I
theorem rv_X6_readB_192 {d : Nat} {Rq : SmQ} {l : SmL} {st : List SmV} {S : SmS} {I : SmI} (h : tr_X6_readB_192 d Rq l st S I) : SW mi_X6_read 192 d Rq l st S I :=
  (show SmW mi_X6_read 192 d Rq (tr_X6_readB_192 d Rq) from
  (xv_bipush dX6_read_192 rfl (inRd rfl)
  (xv_iload dX6_read_194
  (xv_isub dX6_read_196
  (xv_ireturn dX6_read_197 rfl))))) l st S I h
