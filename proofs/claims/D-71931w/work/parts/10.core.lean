/-! ===== THE VIRTUAL MACHINE LAYER: values, heap, context ===== -/
set_option maxRecDepth 100000
abbrev SmV : Type := Int ⊕ (Int ⊕ Option Nat)
abbrev vI (z : Int) : SmV := Sum.inl z
abbrev vJ (z : Int) : SmV := Sum.inr (Sum.inl z)
abbrev vR (r : Option Nat) : SmV := Sum.inr (Sum.inr r)
/-- structure of the heap: tags, lengths, references, size, cells left, slots left -/
abbrev SmS : Type := (Nat → Nat) × (Nat → Int) × (Nat → Int → Option Nat) × Nat × Nat × Nat
abbrev SmI : Type := Nat → Int → Int
abbrev SmO : Type := Option SmV ⊕ Nat
abbrev SmQ : Type := SmO → SmS → SmI → Prop
abbrev SmL : Type := List (Option SmV)
abbrev SmK : Type := SmL → List SmV → SmS → SmI → Prop
def sT (S : SmS) : Nat → Nat := S.1
def sN (S : SmS) : Nat → Int := S.2.1
def sP (S : SmS) : Nat → Int → Option Nat := S.2.2.1
def sZ (S : SmS) : Nat := S.2.2.2.1
def sC (S : SmS) : Nat := S.2.2.2.2.1
def sB (S : SmS) : Nat := S.2.2.2.2.2
def sBud (S : SmS) (c b : Nat) : SmS := (sT S, sN S, sP S, sZ S, c, b)
def sPut (S : SmS) (a : Nat) (k : Int) (r : Option Nat) : SmS := (sT S, sN S, fun b j => if b = a ∧ j = k then r else sP S b j, sZ S, sC S, sB S)
def sNew (S : SmS) (tag : Nat) (n : Int) (w : Nat) : SmS := (fun v => if v = sZ S then tag else sT S v, fun v => if v = sZ S then n else sN S v, fun v j => if v = sZ S then none else sP S v j, sZ S + 1, sC S - 1, sB S - w)
def iSet (I : SmI) (a : Nat) (k x : Int) : SmI := fun b j => if b = a ∧ j = k then x else I b j
def iNew (I : SmI) (a : Nat) : SmI := fun b j => if b = a then 0 else I b j
theorem sT_sBud (S : SmS) (c b : Nat) : sT (sBud S c b) = sT S := rfl
theorem sN_sBud (S : SmS) (c b : Nat) : sN (sBud S c b) = sN S := rfl
theorem sP_sBud (S : SmS) (c b : Nat) : sP (sBud S c b) = sP S := rfl
theorem sZ_sBud (S : SmS) (c b : Nat) : sZ (sBud S c b) = sZ S := rfl
theorem sC_sBud (S : SmS) (c b : Nat) : sC (sBud S c b) = c := rfl
theorem sB_sBud (S : SmS) (c b : Nat) : sB (sBud S c b) = b := rfl
theorem sBud_sBud (S : SmS) (c b c' b' : Nat) : sBud (sBud S c b) c' b' = sBud S c' b' := rfl
theorem sBud_self (S : SmS) : sBud S (sC S) (sB S) = S := rfl
theorem sT_sPut (S : SmS) (a : Nat) (k : Int) (r : Option Nat) : sT (sPut S a k r) = sT S := rfl
theorem sN_sPut (S : SmS) (a : Nat) (k : Int) (r : Option Nat) : sN (sPut S a k r) = sN S := rfl
theorem sZ_sPut (S : SmS) (a : Nat) (k : Int) (r : Option Nat) : sZ (sPut S a k r) = sZ S := rfl
theorem sC_sPut (S : SmS) (a : Nat) (k : Int) (r : Option Nat) : sC (sPut S a k r) = sC S := rfl
theorem sB_sPut (S : SmS) (a : Nat) (k : Int) (r : Option Nat) : sB (sPut S a k r) = sB S := rfl
theorem sP_sPut (S : SmS) (a : Nat) (k : Int) (r : Option Nat) (b : Nat) (j : Int) : sP (sPut S a k r) b j = if b = a ∧ j = k then r else sP S b j := rfl
theorem sT_sNew (S : SmS) (t : Nat) (n : Int) (w v : Nat) : sT (sNew S t n w) v = if v = sZ S then t else sT S v := rfl
theorem sN_sNew (S : SmS) (t : Nat) (n : Int) (w v : Nat) : sN (sNew S t n w) v = if v = sZ S then n else sN S v := rfl
theorem sP_sNew (S : SmS) (t : Nat) (n : Int) (w v : Nat) (j : Int) : sP (sNew S t n w) v j = if v = sZ S then none else sP S v j := rfl
theorem sZ_sNew (S : SmS) (t : Nat) (n : Int) (w : Nat) : sZ (sNew S t n w) = sZ S + 1 := rfl
theorem sC_sNew (S : SmS) (t : Nat) (n : Int) (w : Nat) : sC (sNew S t n w) = sC S - 1 := rfl
theorem sB_sNew (S : SmS) (t : Nat) (n : Int) (w : Nat) : sB (sNew S t n w) = sB S - w := rfl
theorem iSet_ap (I : SmI) (a : Nat) (k x : Int) (b : Nat) (j : Int) : iSet I a k x b j = if b = a ∧ j = k then x else I b j := rfl
theorem iNew_ap (I : SmI) (a b : Nat) (j : Int) : iNew I a b j = if b = a then 0 else I b j := rfl
/-- a condition that omega is asked about while a region is worked out -/
def chk (p : Prop) : Prop := p
theorem chk_i {p : Prop} (h : p) : chk p = True := eq_true h
theorem chk_T : chk True = True := rfl
/-- foreign addresses begin here -/
def smF : Nat := 1000000000
def inR (z : Int) : Prop := -2147483648 ≤ z ∧ z < 2147483648
def inR64 (z : Int) : Prop := -9223372036854775808 ≤ z ∧ z < 9223372036854775808
def w32 (z : Int) : Int := (z + 2147483648) % 4294967296 - 2147483648
def w64 (z : Int) : Int := (z + 9223372036854775808) % 18446744073709551616 - 9223372036854775808
def w8 (z : Int) : Int := (z + 128) % 256 - 128
def w16 (z : Int) : Int := (z + 32768) % 65536 - 32768
theorem w32_in (z : Int) : inR (w32 z) := by unfold inR w32; omega
theorem w64_in (z : Int) : inR64 (w64 z) := by unfold inR64 w64; omega
theorem w8_in (z : Int) : inR (w8 z) := by unfold inR w8; omega
theorem w16_in (z : Int) : inR (w16 z) := by unfold inR w16; omega
theorem w32_id {z : Int} (h : inR z) : w32 z = z := by unfold inR at h; unfold w32; omega
theorem w64_id {z : Int} (h : inR64 z) : w64 z = z := by unfold inR64 at h; unfold w64; omega
def rI (z : Int) : Int32 := Int32.ofInt z
def rJ (z : Int) : Int64 := Int64.ofInt z
theorem rI_toInt {z : Int} (h : inR z) : (rI z).toInt = z := Int32.toInt_ofInt_of_le (by have := h.1; omega) (by have := h.2; omega)
theorem rJ_toInt {z : Int} (h : inR64 z) : (rJ z).toInt = z := Int64.toInt_ofInt_of_le (by have := h.1; omega) (by have := h.2; omega)
theorem rI_w32 (z : Int) : rI (w32 z) = rI z := by
  apply Int32.toInt_inj.mp
  rw [rI_toInt (w32_in z)]
  unfold rI w32
  rw [Int32.toInt_ofInt, show Int32.size = 4294967296 from rfl, Int.bmod_def]
  omega
theorem rJ_w64 (z : Int) : rJ (w64 z) = rJ z := by
  apply Int64.toInt_inj.mp
  rw [rJ_toInt (w64_in z)]
  unfold rJ w64
  rw [Int64.toInt_ofInt, show Int64.size = 18446744073709551616 from rfl, Int.bmod_def]
  omega
theorem rI_add (x y : Int) : rI (w32 (x + y)) = rI x + rI y := by rw [rI_w32]; exact Int32.ofInt_add x y
theorem rI_sub (x y : Int) : rI (w32 (x - y)) = rI x - rI y := by rw [rI_w32]; exact Int32.ofInt_sub x y
theorem rI_mul (x y : Int) : rI (w32 (x * y)) = rI x * rI y := by rw [rI_w32]; exact Int32.ofInt_mul x y
theorem rI_neg (x : Int) : rI (w32 (-x)) = -rI x := by rw [rI_w32]; exact Int32.ofInt_neg x
theorem rJ_add (x y : Int) : rJ (w64 (x + y)) = rJ x + rJ y := by rw [rJ_w64]; exact Int64.ofInt_add x y
theorem rJ_sub (x y : Int) : rJ (w64 (x - y)) = rJ x - rJ y := by rw [rJ_w64]; exact Int64.ofInt_sub x y
theorem rI_lt {x y : Int} (hx : inR x) (hy : inR y) : rI x < rI y ↔ x < y := by rw [Int32.lt_iff_toInt_lt, rI_toInt hx, rI_toInt hy]
theorem rI_le {x y : Int} (hx : inR x) (hy : inR y) : rI x ≤ rI y ↔ x ≤ y := by rw [Int32.le_iff_toInt_le, rI_toInt hx, rI_toInt hy]
theorem rI_eq {x y : Int} (hx : inR x) (hy : inR y) : rI x = rI y ↔ x = y := by rw [← Int32.toInt_inj, rI_toInt hx, rI_toInt hy]
theorem rI_0 : rI 0 = 0 := rfl
theorem inR_0 : inR 0 := by unfold inR; omega
theorem rI_of (x : Int32) : rI x.toInt = x := Int32.ofInt_toInt x
theorem inR_of (x : Int32) : inR x.toInt := ⟨by have := x.le_toInt; omega, by have := x.toInt_lt; omega⟩
theorem inR64_of (x : Int64) : inR64 x.toInt := ⟨by have := x.le_toInt; omega, by have := x.toInt_lt; omega⟩
/-- an operation on Int32 (Int64) taken over to Int -/
def op32 (f : Int32 → Int32 → Int32) (x y : Int) : Int := (f (rI x) (rI y)).toInt
theorem op32_in (f : Int32 → Int32 → Int32) (x y : Int) : inR (op32 f x y) := inR_of _
theorem op32_r (f : Int32 → Int32 → Int32) (x y : Int) : rI (op32 f x y) = f (rI x) (rI y) := rI_of _
theorem rI_w8 (x : Int) : rI (w8 x) = (rI x).toInt8.toInt32 := by
  apply Int32.toInt_inj.mp
  rw [rI_toInt (w8_in x), Int8.toInt_toInt32, Int32.toInt_toInt8]
  unfold rI w8
  rw [Int32.toInt_ofInt, show Int32.size = 4294967296 from rfl, Int.bmod_def, Int.bmod_def]
  omega
theorem rI_w16 (x : Int) : rI (w16 x) = (rI x).toInt16.toInt32 := by
  apply Int32.toInt_inj.mp
  rw [rI_toInt (w16_in x), Int16.toInt_toInt32, Int32.toInt_toInt16]
  unfold rI w16
  rw [Int32.toInt_ofInt, show Int32.size = 4294967296 from rfl, Int.bmod_def, Int.bmod_def]
  omega
theorem rI_clamp {i : Int} (h0 : 0 ≤ i) (h : inR i) : (rI i).toNatClampNeg = i.toNat := by
  rw [Int32.toNatClampNeg, rI_toInt h]
theorem rI_in {i n : Int} (h0 : 0 ≤ i) (h1 : i < n) (h : inR i) : vp_in (rI i) n.toNat := by
  rw [vp_in_iff, rI_toInt h]
  omega
/-! context: launch, numbers of the classes, of the array classes, base, foreign addresses -/
abbrev SmG : Type := Launch × va_G × (Nat → ClassId) × Nat × (Nat → Nat)
def gL (G : SmG) : Launch := G.1
def gD (G : SmG) : va_G := G.2.1
def gY (G : SmG) : Nat → ClassId := G.2.2.1
def gB (G : SmG) : Nat := G.2.2.2.1
def gF (G : SmG) : Nat → Nat := G.2.2.2.2
def rA (G : SmG) (v : Nat) : Nat := if v < smF then gB G + v else gF G (v - smF)
def rR (G : SmG) (r : Option Nat) : Option Nat := r.map (rA G)
def rV (G : SmG) : SmV → Value
  | .inl z => .int (rI z)
  | .inr (.inl z) => .long (rJ z)
  | .inr (.inr r) => va_rf (rR G r)
theorem rV_I (G : SmG) (z : Int) : rV G (vI z) = .int (rI z) := rfl
theorem rV_J (G : SmG) (z : Int) : rV G (vJ z) = .long (rJ z) := rfl
theorem rV_R (G : SmG) (r : Option Nat) : rV G (vR r) = va_rf (rR G r) := rfl
def okV : SmV → Prop
  | .inl z => inR z
  | .inr (.inl z) => inR64 z
  | .inr (.inr _) => True
/-- what a method may change -/
def gA (G : SmG) : Nat → Prop := fun q => gB G ≤ q
def smCl : List vw_C := [(RX1, TX1, 12), (RX0, TX0, 14), (RX1, TX1, 12), (RX2, TX2, 4), (RX4, TX4, 3), (RX5, TX5, 2), (RX7, TX7, 8), (RX8, TX8, 8), (RX10, TX10, 3), (RX9, TX9, 2), (RX3, TX1, 0), (RX6, TX6, 24), (RJ2, TJ2, 1), (RJ4, TJ4, 9), (RJ21, TJ21, 6), (RJ24, TJ24, 1), (RJ26, TJ26, 4), (RJ6, TJ6, 4), (RJ15, TJ15, 0), (RJ31, TJ31, 0), (RJ32, TJ32, 0), (RJ29, TJ29, 0)]
def smTy : Nat → Nat → FieldType := fun t => match t with
  | 1 => tyX0
  | 2 => tyX1
  | 3 => tyX2
  | 4 => tyX4
  | 5 => tyX5
  | 6 => tyX7
  | 7 => tyX8
  | 8 => tyX10
  | 9 => tyX9
  | 11 => tyX6
  | 12 => tyJ2
  | 13 => tyJ4
  | 14 => tyJ21
  | 15 => tyJ24
  | 16 => tyJ26
  | 17 => tyJ6
  | _ => fun _ => .int
def isRefTy : FieldType → Bool
  | .object _ => true
  | .array _ => true
  | _ => false
def smNF (t : Nat) : Nat := match smCl[t]? with
  | some q => q.2.2
  | none => 0
def smFs (G : SmG) (t : Nat) (Ir : Int → Int) (Pr : Int → Option Nat) : List Value := (List.range (smNF t)).map fun (k : Nat) => if isRefTy (smTy t k) = true then va_rf (rR G (Pr (k : Int))) else .int (rI (Ir (k : Int)))
/-- array tags: 100 int, 101 byte, 102 boolean, 103 short, 104 int[][], 105 Image[], 106 Sheet[], 107 Object[] -/
def smAty (t : Nat) : FieldType := match t with
  | 100 => .int
  | 101 => .byte
  | 102 => .boolean
  | 103 => .short
  | 104 => .array .int
  | 105 => .object "LineDispatch$Image"
  | 106 => .object "LineDispatch$Sheet"
  | _ => .object "java/lang/Object"
def smE (G : SmG) (t : Nat) (n : Int) (Ir : Int → Int) (Pr : Int → Option Nat) : va_E :=
  if t < 100 then .inr (t, smFs G t Ir Pr)
  else if t < 104 then .inl (gY G t, n.toNat, .inl fun (j : Nat) => rI (Ir (j : Int)))
  else .inl (gY G t, n.toNat, .inr (.inr (.inr (.inr fun (j : Nat) => rR G (Pr (j : Int))))))
def sE (G : SmG) (S : SmS) (I : SmI) (v : Nat) : va_E := smE G (sT S v) (sN S v) (I v) (sP S v)
/-- an object of a lambda's class: what it has captured -/
def lamCell (G : SmG) (t : Nat) (Ir : Int → Int) (Pr : Int → Option Nat) : Cell := { cls := gY G t, slots := if t = 54 then #[va_rf (rR G (Pr 0)), .int (rI (Ir 1))] else #[va_rf (rR G (Pr 0))], vm := .none }
/-- the cell v of the virtual heap, in the real one -/
def sAt (G : SmG) (S : SmS) (I : SmI) (v : Nat) (H : Heap) : Prop :=
  if 50 ≤ sT S v ∧ sT S v < 58 then H[gB G + v]? = some (lamCell G (sT S v) (I v) (sP S v)) else va_at (gD G) smCl (gB G + v, sE G S I v) H
/-- tags of cells that are ours: classes 1..49, lambdas 50..57, arrays 100..107 -/
def okTag (t : Nat) : Prop := (1 ≤ t ∧ t < 58) ∨ (100 ≤ t ∧ t < 108)
/-- the virtual heap stands for the real one -/
def RH (G : SmG) (cap : Nat) (s : State) (S : SmS) (I : SmI) (H : Heap) : Prop :=
  H.size = gB G + sZ S ∧ sZ S + sC S ≤ cap ∧ cap ≤ smF ∧
  (∀ v, sT S v ≠ 0 → v < sZ S → okTag (sT S v) ∧ sAt G S I v H) ∧
  (∀ v, sZ S ≤ v → v < smF → sT S v = 0) ∧
  (∀ v, smF ≤ v → sT S v = 0 ∨ 200 ≤ sT S v) ∧
  (∀ v, 0 ≤ sN S v ∧ sN S v < 2147483648) ∧ (∀ v k, inR (I v k)) ∧
  (sT S smF = 200 → va_X (gF G 0) (sN S smF).toNat (fun j => rI (I smF (j : Int))) s H ∧ gF G 0 < gB G)
theorem RH.moved {G : SmG} {cap : Nat} {s U : State} {S : SmS} {I : SmI} {H : Heap} (hvm : s.vm.Alike U.vm) (h : RH G cap s S I H) : RH G cap U S I H := by
  obtain ⟨h1, h2, h3, h4, h5, h6, h7, h8, h9⟩ := h
  exact ⟨h1, h2, h3, h4, h5, h6, h7, h8, fun q => ⟨(h9 q).1.moved hvm, (h9 q).2⟩⟩
def smTys (G : SmG) : List (ClassId × FieldType) := [(gY G 100, .int), (gY G 101, .byte), (gY G 102, .boolean), (gY G 103, .short), (gY G 104, .array .int), (gY G 105, .object "LineDispatch$Image"), (gY G 106, .object "LineDispatch$Sheet"), (gY G 107, .object "java/lang/Object")]
def smLam (w : Cond) (s : State) (c : ClassId) : Prop := match w with
  | .lambdaSite x pc idx σ => s.lambdaAt? x pc idx σ = some (c, none)
  | _ => False
def LamG (G : SmG) (s0 : State) : Prop := smLam siteWord_1_1 s0 (gY G 51) ∧ smLam siteWord_1_2 s0 (gY G 52) ∧ smLam siteWord_1_3 s0 (gY G 53) ∧ smLam siteWord_1_4 s0 (gY G 54) ∧ smLam siteWord_1_5 s0 (gY G 55) ∧ smLam siteWord_1_6 s0 (gY G 56) ∧ smLam siteWord_1_7 s0 (gY G 57)
/-- the foreign objects: 1 TreeSet's PRESENT, 2..4 the three words of the text -/
def ForG (G : SmG) (s0 : State) : Prop := va_Z "java/util/TreeSet" "PRESENT" "Ljava/lang/Object;" (.ref (gF G 1)) (gA G) s0 s0.heap ∧ vk_R "LineDispatch$Reader" 114 "place" (gF G 2) s0 ∧ vk_R "LineDispatch$Reader" 120 "section" (gF G 3) s0 ∧ vk_R "LineDispatch$Reader" 122 "train" (gF G 4) s0 ∧
  vk_S 3 [5, 7, 5] [[112, 108, 97, 99, 101], [115, 101, 99, 116, 105, 111, 110], [116, 114, 97, 105, 110]] (fun i => gF G (2 + i)) (fun i => gF G (7 + i)) (gA G) s0 s0.heap ∧
  (vx_Zq Bundle.tN "UNASSIGNED_STACK" Bundle.steD (gA G) s0 s0.heap ∧ vx_Zq Bundle.tN "SUPPRESSED_SENTINEL" Bundle.listD (gA G) s0 s0.heap) ∧
  (va_Z Bundle.tN "UNASSIGNED_STACK" Bundle.steD .null (gA G) s0 s0.heap ∨ va_Z Bundle.tN "UNASSIGNED_STACK" Bundle.steD (.ref (gF G 5)) (gA G) s0 s0.heap) ∧
  (va_Z Bundle.tN "SUPPRESSED_SENTINEL" Bundle.listD .null (gA G) s0 s0.heap ∨ va_Z Bundle.tN "SUPPRESSED_SENTINEL" Bundle.listD (.ref (gF G 6)) (gA G) s0 s0.heap) ∧
  va_Z "java/lang/String" "COMPACT_STRINGS" "Z" (.int 1) (gA G) s0 s0.heap ∧
  (va_Z "jdk/internal/util/Preconditions" "SIOOBE_FORMATTER" "Ljava/util/function/BiFunction;" .null (gA G) s0 s0.heap ∨ va_Z "jdk/internal/util/Preconditions" "SIOOBE_FORMATTER" "Ljava/util/function/BiFunction;" (.ref (gF G 10)) (gA G) s0 s0.heap)
/-- what is known of the law's start, and of the state here over it -/
def KK (G : SmG) (U : State) : Prop := ∃ (s0 : State) (b : Nat), (∀ w ∈ lw_tbl, w.before #[Value.ref b] s0 = true) ∧ (Jvm.Cond.and given_1 narrow_1).before #[Value.ref b] s0 = true ∧ modulesRight_1 s0 = true ∧ s0.WarmedH U.vm ∧ gB G = s0.heap.size ∧ gB G ≤ U.heap.size ∧ (∀ q, q < gB G → U.heap[q]? = s0.heap[q]?) ∧ va_K (gD G) smCl (smTys G) s0 ∧ (gL G).flags = flags0 ∧ ForG G s0 ∧ LamG G s0
theorem KK.moved {G : SmG} {s U : State} {locs : List Loc} (h : KK G s) (hW : s.WarmedH U.vm) (hS : va_S (gA G) s.heap U.heap locs) : KK G U := by
  obtain ⟨s0, b, h1, h2, h3, h4, h5, h5', h6, h7⟩ := h
  refine ⟨s0, b, h1, h2, h3, State.WarmedH.trans h4 hW, h5, Nat.le_trans h5' hS.1, fun q hq => ?_, h7⟩
  rw [← h6 q hq]
  exact hS.2.1 q (Nat.lt_of_lt_of_le hq h5') (fun z => absurd hq (Nat.not_lt.mpr z))
theorem KK.same {G : SmG} {s U : State} (h : KK G s) (hv : U.vm = s.vm) (hh : U.heap = s.heap) : KK G U := by
  obtain ⟨s0, b, h1, h2, h3, h4, h5, h5', h6, h7⟩ := h
  exact ⟨s0, b, h1, h2, h3, by rw [hv]; exact h4, h5, by rw [hh]; exact h5', by rw [hh]; exact h6, h7⟩
theorem KK.k {G : SmG} {U : State} (h : KK G U) : va_K (gD G) smCl (smTys G) U := by
  obtain ⟨s0, b, h1, h2, h3, h4, h5, h5', h6, h7, -⟩ := h
  exact h7.moved h4.alike
/-! methods: name, code, words of locals, what it returns, handlers -/
abbrev SmM : Type := MethodName × ByteArray × Nat × Option FieldType × List (Nat × Nat × Nat × Nat)
def mN (M : SmM) : MethodName := M.1
def mC (M : SmM) : ByteArray := M.2.1
def mL (M : SmM) : Nat := M.2.2.1
def mR (M : SmM) : Option FieldType := M.2.2.2.1
def mH (M : SmM) : List (Nat × Nat × Nat × Nat) := M.2.2.2.2
/-- locals held -/
def LcS (G : SmG) (nL : Nat) (l : SmL) (ls : Array Slot) : Prop := ls.size = nL ∧ lv_wf ls ∧ l.length = nL ∧ ∀ (i : Nat) (v : SmV), l[i]? = some (some v) → ls[i]? = some (.val (rV G v)) ∧ okV v
def FX (G : SmG) (M : SmM) (d : Nat) (p : Program) (R : Room) (s : State) (m : MethodId) (args : Array Value) (meth : Method) (c : Code) : Prop :=
  p.tables.exec = Jvm.exec ∧ c.code = mC M ∧ meth.sig.returnType = mR M ∧ c.maxLocals = mL M ∧ meth.locks = false ∧ meth.name = (mN M).name ∧ s.vm.findClass (mN M).cls = some m.cls ∧ (∀ w ∈ lw_all, w.before args s = true) ∧ (c.exceptionTable.toList = tableOf (mH M) ∧ s.methodNamed? (mN M) = some m) ∧ KK G s ∧ d + 20 ≤ R.frames ∧ 64 * d + 12000 ≤ R.locals
/-- what may be returned: the instruction at pc, the answer -/
def retAt (M : SmM) (pc : Nat) (v : Option SmV) : Prop := match v with
  | none => mR M = none ∧ decode (mC M) pc = .ok (.return_, 1)
  | some (.inl z) => (∃ ty, mR M = some ty ∧ narrow ty (.int (rI z)) = .int (rI z)) ∧ inR z ∧ decode (mC M) pc = .ok (.ireturn, 1)
  | some (.inr (.inl _)) => False
  | some (.inr (.inr _)) => (∃ rt, mR M = some rt ∧ isRefTy rt = true) ∧ decode (mC M) pc = .ok (.areturn, 1)
/-- the name of a thrown object's class -/
def smEx (t : Nat) : String := match smCl[t]? with
  | some q => q.1
  | none => ""
/-- how a method ends in a context -/
def RT (G : SmG) (M : SmM) (Rq : SmQ) (p : Program) (e : Env) (R : Room) (s : State) (m : MethodId) (args : Array Value) (below : List Frame) (meth : Method) (c : Code) (cap : Nat) (FQ : State → Prop) : Prop :=
  ∀ (o : SmO) (S : SmS) (I : SmI) (H : Heap) (locs : List Loc) (cells slots pc : Nat) (ls : Array Slot) (rest : List Value), Rq o S I → RH G cap s S I H → va_S (gA G) s.heap H locs → cells + sC S ≤ R.cells → slots + sB S ≤ R.slots →
    match o with
    | .inl v => retAt M pc v → W p (gL G) e R s m args below meth c H locs cells slots FQ (F0 m pc ls (v.toList.map (rV G)))
    | .inr q => 1 ≤ sT S q → sT S q < 22 → q < sZ S → (∀ x ∈ c.exceptionTable.toList, covers x pc = false) → vx_W p (gL G) e R s m args below meth c H locs cells slots FQ (F0 m pc ls rest) (gB G + q)
/-- THE JUDGEMENT: from here on the method comes to an end of which Rq holds -/
def SW (M : SmM) (pc d : Nat) (Rq : SmQ) (l : SmL) (st : List SmV) (S : SmS) (I : SmI) : Prop :=
  ∀ (G : SmG) (p : Program) (e : Env) (R : Room) (s : State) (m : MethodId) (args : Array Value) (below : List Frame) (meth : Method) (c : Code) (cap : Nat) (H : Heap) (locs : List Loc) (cells slots : Nat) (FQ : State → Prop) (ls : Array Slot),
    FX G M d p R s m args meth c → RH G cap s S I H → LcS G (mL M) l ls → (∀ v ∈ st, okV v) → va_S (gA G) s.heap H locs → cells + sC S ≤ R.cells → slots + sB S ≤ R.slots → RT G M Rq p e R s m args below meth c cap FQ →
    W p (gL G) e R s m args below meth c H locs cells slots FQ (F0 m pc ls (st.map (rV G)))
/-- where nothing of the heap changes -/
theorem SW_pure {M : SmM} {pc pc' d : Nat} {Rq : SmQ} {l l' : SmL} {st st' : List SmV} {S : SmS} {I : SmI}
    (hw : ∀ (G : SmG) (p : Program) (e : Env) (R : Room) (s : State) (m : MethodId) (args : Array Value) (below : List Frame) (meth : Method) (c : Code) (H : Heap) (locs : List Loc) (cells slots : Nat) (FQ : State → Prop) (ls : Array Slot),
      FX G M d p R s m args meth c → LcS G (mL M) l ls → (∀ v ∈ st, okV v) → (∀ v k, inR (I v k)) →
      (∀ v ∈ st', okV v) ∧ ((∀ ls', LcS G (mL M) l' ls' → W p (gL G) e R s m args below meth c H locs cells slots FQ (F0 m pc' ls' (st'.map (rV G)))) → W p (gL G) e R s m args below meth c H locs cells slots FQ (F0 m pc ls (st.map (rV G)))))
    (k : SW M pc' d Rq l' st' S I) : SW M pc d Rq l st S I := by
  intro G p e R s m args below meth c cap H locs cells slots FQ ls hf hr hl hv hs hc hb hq
  obtain ⟨h1, h2⟩ := hw G p e R s m args below meth c H locs cells slots FQ ls hf hl hv hr.2.2.2.2.2.2.2.1
  exact h2 (fun ls' hl' => k G p e R s m args below meth c cap H locs cells slots FQ ls' hf hr hl' h1 hs hc hb hq)
