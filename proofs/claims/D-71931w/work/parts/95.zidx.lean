/-! locals by number, in one step (printed by gen/mkidx.py) -/
set_option maxRecDepth 100000
def nlO : Option SmV → Prop
  | some (.inr (.inl _)) => False
  | _ => True
theorem nlO_n : nlO none = True := rfl
theorem nlO_I (z : Int) : nlO (some (vI z)) = True := rfl
theorem nlO_R (z : Option Nat) : nlO (some (vR z)) = True := rfl
theorem lg0_ (a0 : Option SmV) (l : SmL) : lget (a0 :: l) 0 = a0 := rfl
theorem ls0_ (a0 x : Option SmV) (l : SmL) : List.set (a0 :: l) 0 x = x :: l := rfl
theorem nl0_ (l : SmL) : nlAt l 0 = True := by cases l <;> rfl
theorem lg1_ (a0 a1 : Option SmV) (l : SmL) : lget (a0 :: a1 :: l) 1 = a1 := rfl
theorem ls1_ (a0 a1 x : Option SmV) (l : SmL) : List.set (a0 :: a1 :: l) 1 x = a0 :: x :: l := rfl
theorem nl1_ (a0 : Option SmV) (l : SmL) : nlAt (a0 :: l) 1 = nlO a0 := rfl
theorem lg2_ (a0 a1 a2 : Option SmV) (l : SmL) : lget (a0 :: a1 :: a2 :: l) 2 = a2 := rfl
theorem ls2_ (a0 a1 a2 x : Option SmV) (l : SmL) : List.set (a0 :: a1 :: a2 :: l) 2 x = a0 :: a1 :: x :: l := rfl
theorem nl2_ (a0 a1 : Option SmV) (l : SmL) : nlAt (a0 :: a1 :: l) 2 = nlO a1 := rfl
theorem lg3_ (a0 a1 a2 a3 : Option SmV) (l : SmL) : lget (a0 :: a1 :: a2 :: a3 :: l) 3 = a3 := rfl
theorem ls3_ (a0 a1 a2 a3 x : Option SmV) (l : SmL) : List.set (a0 :: a1 :: a2 :: a3 :: l) 3 x = a0 :: a1 :: a2 :: x :: l := rfl
theorem nl3_ (a0 a1 a2 : Option SmV) (l : SmL) : nlAt (a0 :: a1 :: a2 :: l) 3 = nlO a2 := rfl
theorem lg4_ (a0 a1 a2 a3 a4 : Option SmV) (l : SmL) : lget (a0 :: a1 :: a2 :: a3 :: a4 :: l) 4 = a4 := rfl
theorem ls4_ (a0 a1 a2 a3 a4 x : Option SmV) (l : SmL) : List.set (a0 :: a1 :: a2 :: a3 :: a4 :: l) 4 x = a0 :: a1 :: a2 :: a3 :: x :: l := rfl
theorem nl4_ (a0 a1 a2 a3 : Option SmV) (l : SmL) : nlAt (a0 :: a1 :: a2 :: a3 :: l) 4 = nlO a3 := rfl
theorem lg5_ (a0 a1 a2 a3 a4 a5 : Option SmV) (l : SmL) : lget (a0 :: a1 :: a2 :: a3 :: a4 :: a5 :: l) 5 = a5 := rfl
theorem ls5_ (a0 a1 a2 a3 a4 a5 x : Option SmV) (l : SmL) : List.set (a0 :: a1 :: a2 :: a3 :: a4 :: a5 :: l) 5 x = a0 :: a1 :: a2 :: a3 :: a4 :: x :: l := rfl
theorem nl5_ (a0 a1 a2 a3 a4 : Option SmV) (l : SmL) : nlAt (a0 :: a1 :: a2 :: a3 :: a4 :: l) 5 = nlO a4 := rfl
theorem lg6_ (a0 a1 a2 a3 a4 a5 a6 : Option SmV) (l : SmL) : lget (a0 :: a1 :: a2 :: a3 :: a4 :: a5 :: a6 :: l) 6 = a6 := rfl
theorem ls6_ (a0 a1 a2 a3 a4 a5 a6 x : Option SmV) (l : SmL) : List.set (a0 :: a1 :: a2 :: a3 :: a4 :: a5 :: a6 :: l) 6 x = a0 :: a1 :: a2 :: a3 :: a4 :: a5 :: x :: l := rfl
theorem nl6_ (a0 a1 a2 a3 a4 a5 : Option SmV) (l : SmL) : nlAt (a0 :: a1 :: a2 :: a3 :: a4 :: a5 :: l) 6 = nlO a5 := rfl
theorem lg7_ (a0 a1 a2 a3 a4 a5 a6 a7 : Option SmV) (l : SmL) : lget (a0 :: a1 :: a2 :: a3 :: a4 :: a5 :: a6 :: a7 :: l) 7 = a7 := rfl
theorem ls7_ (a0 a1 a2 a3 a4 a5 a6 a7 x : Option SmV) (l : SmL) : List.set (a0 :: a1 :: a2 :: a3 :: a4 :: a5 :: a6 :: a7 :: l) 7 x = a0 :: a1 :: a2 :: a3 :: a4 :: a5 :: a6 :: x :: l := rfl
theorem nl7_ (a0 a1 a2 a3 a4 a5 a6 : Option SmV) (l : SmL) : nlAt (a0 :: a1 :: a2 :: a3 :: a4 :: a5 :: a6 :: l) 7 = nlO a6 := rfl
theorem lg8_ (a0 a1 a2 a3 a4 a5 a6 a7 a8 : Option SmV) (l : SmL) : lget (a0 :: a1 :: a2 :: a3 :: a4 :: a5 :: a6 :: a7 :: a8 :: l) 8 = a8 := rfl
theorem ls8_ (a0 a1 a2 a3 a4 a5 a6 a7 a8 x : Option SmV) (l : SmL) : List.set (a0 :: a1 :: a2 :: a3 :: a4 :: a5 :: a6 :: a7 :: a8 :: l) 8 x = a0 :: a1 :: a2 :: a3 :: a4 :: a5 :: a6 :: a7 :: x :: l := rfl
theorem nl8_ (a0 a1 a2 a3 a4 a5 a6 a7 : Option SmV) (l : SmL) : nlAt (a0 :: a1 :: a2 :: a3 :: a4 :: a5 :: a6 :: a7 :: l) 8 = nlO a7 := rfl
theorem lg9_ (a0 a1 a2 a3 a4 a5 a6 a7 a8 a9 : Option SmV) (l : SmL) : lget (a0 :: a1 :: a2 :: a3 :: a4 :: a5 :: a6 :: a7 :: a8 :: a9 :: l) 9 = a9 := rfl
theorem ls9_ (a0 a1 a2 a3 a4 a5 a6 a7 a8 a9 x : Option SmV) (l : SmL) : List.set (a0 :: a1 :: a2 :: a3 :: a4 :: a5 :: a6 :: a7 :: a8 :: a9 :: l) 9 x = a0 :: a1 :: a2 :: a3 :: a4 :: a5 :: a6 :: a7 :: a8 :: x :: l := rfl
theorem nl9_ (a0 a1 a2 a3 a4 a5 a6 a7 a8 : Option SmV) (l : SmL) : nlAt (a0 :: a1 :: a2 :: a3 :: a4 :: a5 :: a6 :: a7 :: a8 :: l) 9 = nlO a8 := rfl
theorem lg10_ (a0 a1 a2 a3 a4 a5 a6 a7 a8 a9 a10 : Option SmV) (l : SmL) : lget (a0 :: a1 :: a2 :: a3 :: a4 :: a5 :: a6 :: a7 :: a8 :: a9 :: a10 :: l) 10 = a10 := rfl
theorem ls10_ (a0 a1 a2 a3 a4 a5 a6 a7 a8 a9 a10 x : Option SmV) (l : SmL) : List.set (a0 :: a1 :: a2 :: a3 :: a4 :: a5 :: a6 :: a7 :: a8 :: a9 :: a10 :: l) 10 x = a0 :: a1 :: a2 :: a3 :: a4 :: a5 :: a6 :: a7 :: a8 :: a9 :: x :: l := rfl
theorem nl10_ (a0 a1 a2 a3 a4 a5 a6 a7 a8 a9 : Option SmV) (l : SmL) : nlAt (a0 :: a1 :: a2 :: a3 :: a4 :: a5 :: a6 :: a7 :: a8 :: a9 :: l) 10 = nlO a9 := rfl
theorem lg11_ (a0 a1 a2 a3 a4 a5 a6 a7 a8 a9 a10 a11 : Option SmV) (l : SmL) : lget (a0 :: a1 :: a2 :: a3 :: a4 :: a5 :: a6 :: a7 :: a8 :: a9 :: a10 :: a11 :: l) 11 = a11 := rfl
theorem ls11_ (a0 a1 a2 a3 a4 a5 a6 a7 a8 a9 a10 a11 x : Option SmV) (l : SmL) : List.set (a0 :: a1 :: a2 :: a3 :: a4 :: a5 :: a6 :: a7 :: a8 :: a9 :: a10 :: a11 :: l) 11 x = a0 :: a1 :: a2 :: a3 :: a4 :: a5 :: a6 :: a7 :: a8 :: a9 :: a10 :: x :: l := rfl
theorem nl11_ (a0 a1 a2 a3 a4 a5 a6 a7 a8 a9 a10 : Option SmV) (l : SmL) : nlAt (a0 :: a1 :: a2 :: a3 :: a4 :: a5 :: a6 :: a7 :: a8 :: a9 :: a10 :: l) 11 = nlO a10 := rfl
theorem lg12_ (a0 a1 a2 a3 a4 a5 a6 a7 a8 a9 a10 a11 a12 : Option SmV) (l : SmL) : lget (a0 :: a1 :: a2 :: a3 :: a4 :: a5 :: a6 :: a7 :: a8 :: a9 :: a10 :: a11 :: a12 :: l) 12 = a12 := rfl
theorem ls12_ (a0 a1 a2 a3 a4 a5 a6 a7 a8 a9 a10 a11 a12 x : Option SmV) (l : SmL) : List.set (a0 :: a1 :: a2 :: a3 :: a4 :: a5 :: a6 :: a7 :: a8 :: a9 :: a10 :: a11 :: a12 :: l) 12 x = a0 :: a1 :: a2 :: a3 :: a4 :: a5 :: a6 :: a7 :: a8 :: a9 :: a10 :: a11 :: x :: l := rfl
theorem nl12_ (a0 a1 a2 a3 a4 a5 a6 a7 a8 a9 a10 a11 : Option SmV) (l : SmL) : nlAt (a0 :: a1 :: a2 :: a3 :: a4 :: a5 :: a6 :: a7 :: a8 :: a9 :: a10 :: a11 :: l) 12 = nlO a11 := rfl
theorem lg13_ (a0 a1 a2 a3 a4 a5 a6 a7 a8 a9 a10 a11 a12 a13 : Option SmV) (l : SmL) : lget (a0 :: a1 :: a2 :: a3 :: a4 :: a5 :: a6 :: a7 :: a8 :: a9 :: a10 :: a11 :: a12 :: a13 :: l) 13 = a13 := rfl
theorem ls13_ (a0 a1 a2 a3 a4 a5 a6 a7 a8 a9 a10 a11 a12 a13 x : Option SmV) (l : SmL) : List.set (a0 :: a1 :: a2 :: a3 :: a4 :: a5 :: a6 :: a7 :: a8 :: a9 :: a10 :: a11 :: a12 :: a13 :: l) 13 x = a0 :: a1 :: a2 :: a3 :: a4 :: a5 :: a6 :: a7 :: a8 :: a9 :: a10 :: a11 :: a12 :: x :: l := rfl
theorem nl13_ (a0 a1 a2 a3 a4 a5 a6 a7 a8 a9 a10 a11 a12 : Option SmV) (l : SmL) : nlAt (a0 :: a1 :: a2 :: a3 :: a4 :: a5 :: a6 :: a7 :: a8 :: a9 :: a10 :: a11 :: a12 :: l) 13 = nlO a12 := rfl
theorem lg14_ (a0 a1 a2 a3 a4 a5 a6 a7 a8 a9 a10 a11 a12 a13 a14 : Option SmV) (l : SmL) : lget (a0 :: a1 :: a2 :: a3 :: a4 :: a5 :: a6 :: a7 :: a8 :: a9 :: a10 :: a11 :: a12 :: a13 :: a14 :: l) 14 = a14 := rfl
theorem ls14_ (a0 a1 a2 a3 a4 a5 a6 a7 a8 a9 a10 a11 a12 a13 a14 x : Option SmV) (l : SmL) : List.set (a0 :: a1 :: a2 :: a3 :: a4 :: a5 :: a6 :: a7 :: a8 :: a9 :: a10 :: a11 :: a12 :: a13 :: a14 :: l) 14 x = a0 :: a1 :: a2 :: a3 :: a4 :: a5 :: a6 :: a7 :: a8 :: a9 :: a10 :: a11 :: a12 :: a13 :: x :: l := rfl
theorem nl14_ (a0 a1 a2 a3 a4 a5 a6 a7 a8 a9 a10 a11 a12 a13 : Option SmV) (l : SmL) : nlAt (a0 :: a1 :: a2 :: a3 :: a4 :: a5 :: a6 :: a7 :: a8 :: a9 :: a10 :: a11 :: a12 :: a13 :: l) 14 = nlO a13 := rfl
theorem lg15_ (a0 a1 a2 a3 a4 a5 a6 a7 a8 a9 a10 a11 a12 a13 a14 a15 : Option SmV) (l : SmL) : lget (a0 :: a1 :: a2 :: a3 :: a4 :: a5 :: a6 :: a7 :: a8 :: a9 :: a10 :: a11 :: a12 :: a13 :: a14 :: a15 :: l) 15 = a15 := rfl
theorem ls15_ (a0 a1 a2 a3 a4 a5 a6 a7 a8 a9 a10 a11 a12 a13 a14 a15 x : Option SmV) (l : SmL) : List.set (a0 :: a1 :: a2 :: a3 :: a4 :: a5 :: a6 :: a7 :: a8 :: a9 :: a10 :: a11 :: a12 :: a13 :: a14 :: a15 :: l) 15 x = a0 :: a1 :: a2 :: a3 :: a4 :: a5 :: a6 :: a7 :: a8 :: a9 :: a10 :: a11 :: a12 :: a13 :: a14 :: x :: l := rfl
theorem nl15_ (a0 a1 a2 a3 a4 a5 a6 a7 a8 a9 a10 a11 a12 a13 a14 : Option SmV) (l : SmL) : nlAt (a0 :: a1 :: a2 :: a3 :: a4 :: a5 :: a6 :: a7 :: a8 :: a9 :: a10 :: a11 :: a12 :: a13 :: a14 :: l) 15 = nlO a14 := rfl
