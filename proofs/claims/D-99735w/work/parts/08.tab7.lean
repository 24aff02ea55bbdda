/-! SagMemoryModel: its world (cell 0: the object; then its arrays) and its tables, by wip gen/tab.py -/
def fk7 : List Nat := [0, 4, 5, 6, 7, 8, 0, 0, 0, 0, 0, 1, 0, 0, 0, 0, 9, 10, 11, 12, 13, 14, 15, 16, 0, 0, 0, 17, 18, 19, 20, 21, 22, 23, 24, 25, 26, 27, 28, 29, 30, 31, 32, 0, 0, 0, 33, 0, 0, 0, 0, 0, 0, 34, 0, 0, 0, 35, 36]
def sh7 : List SC := .inl (0, fk7) :: [.inr (0, 4), .inr (0, 4), .inr (1, 240), .inr (1, 60), .inr (2, 700), .inr (0, 5), .inr (0, 40), .inr (0, 30), .inr (0, 70), .inr (0, 75), .inr (0, 20), .inr (0, 450), .inr (3, 3), .inr (0, 7), .inr (0, 7), .inr (0, 7), .inr (0, 24), .inr (0, 24), .inr (0, 3), .inr (0, 3), .inr (0, 3), .inr (0, 7), .inr (0, 7), .inr (0, 7), .inr (0, 7), .inr (0, 7), .inr (0, 21), .inr (0, 21), .inr (0, 168), .inr (0, 7), .inr (0, 7), .inr (0, 9), .inr (0, 9)]
def gT7 : Nat → Option (Nat × Nat) := fun x => match x with
  | 116 => some (0, 0)
  | 7 => some (0, 1)
  | 13 => some (0, 2)
  | 16 => some (0, 3)
  | 20 => some (0, 4)
  | 23 => some (0, 5)
  | 133 => some (0, 6)
  | 140 => some (0, 7)
  | 157 => some (0, 8)
  | 147 => some (0, 9)
  | 150 => some (0, 10)
  | 153 => some (0, 11)
  | 168 => some (0, 12)
  | 171 => some (0, 13)
  | 195 => some (0, 14)
  | 27 => some (0, 15)
  | 31 => some (0, 16)
  | 34 => some (0, 17)
  | 37 => some (0, 18)
  | 40 => some (0, 19)
  | 43 => some (0, 20)
  | 46 => some (0, 21)
  | 49 => some (0, 22)
  | 52 => some (0, 23)
  | 295 => some (0, 24)
  | 298 => some (0, 25)
  | 301 => some (0, 26)
  | 56 => some (0, 27)
  | 59 => some (0, 28)
  | 62 => some (0, 29)
  | 65 => some (0, 30)
  | 68 => some (0, 31)
  | 71 => some (0, 32)
  | 74 => some (0, 33)
  | 77 => some (0, 34)
  | 80 => some (0, 35)
  | 83 => some (0, 36)
  | 86 => some (0, 37)
  | 89 => some (0, 38)
  | 92 => some (0, 39)
  | 95 => some (0, 40)
  | 98 => some (0, 41)
  | 101 => some (0, 42)
  | 362 => some (0, 43)
  | 365 => some (0, 44)
  | 371 => some (0, 45)
  | 104 => some (0, 46)
  | 392 => some (0, 47)
  | 395 => some (0, 48)
  | 398 => some (0, 49)
  | 401 => some (0, 50)
  | 410 => some (0, 51)
  | 413 => some (0, 52)
  | 107 => some (0, 53)
  | 427 => some (0, 54)
  | 430 => some (0, 55)
  | 433 => some (0, 56)
  | 110 => some (0, 57)
  | 113 => some (0, 58)
  | _ => none
def pT7 : Nat → Option (Nat × Nat) := fun x => match x with
  | 116 => some (0, 0)
  | 133 => some (0, 6)
  | 140 => some (0, 7)
  | 157 => some (0, 8)
  | 147 => some (0, 9)
  | 150 => some (0, 10)
  | 153 => some (0, 11)
  | 168 => some (0, 12)
  | 171 => some (0, 13)
  | 195 => some (0, 14)
  | 27 => some (0, 15)
  | 295 => some (0, 24)
  | 298 => some (0, 25)
  | 301 => some (0, 26)
  | 362 => some (0, 43)
  | 365 => some (0, 44)
  | 371 => some (0, 45)
  | 392 => some (0, 47)
  | 395 => some (0, 48)
  | 398 => some (0, 49)
  | 401 => some (0, 50)
  | 410 => some (0, 51)
  | 413 => some (0, 52)
  | 427 => some (0, 54)
  | 430 => some (0, 55)
  | 433 => some (0, 56)
  | _ => none
def kT7 : Nat → Option Int := fun x => match x with
  | 166 => some (100000)
  | 167 => some (1000000)
  | _ => none
def lT7 : Nat → Option Int := fun x => match x with
  | 119 => some (3)
  | 160 => some (-1)
  | 162 => some (27)
  | 164 => some (96)
  | 261 => some (316452499)
  | 263 => some (8798)
  | 246 => some (3554408)
  | 265 => some (298288)
  | 227 => some (38444009)
  | 202 => some (4555648)
  | 207 => some (404931)
  | 236 => some (60284)
  | 213 => some (79)
  | 241 => some (453928)
  | 219 => some (311436)
  | 221 => some (555)
  | 223 => some (158537)
  | 225 => some (47)
  | 345 => some (2)
  | 422 => some (999)
  | 472 => some (10)
  | 482 => some (-2)
  | 492 => some (2000000000)
  | 484 => some (1103515245)
  | 486 => some (12345)
  | 488 => some (2147483648)
  | 490 => some (65536)
  | 500 => some (20)
  | 506 => some (300)
  | 508 => some (7)
  | _ => none
abbrev tb7 (cs : Nat → Option (Nat × Nat × Spec)) : TB := (gT7, pT7, kT7, lT7, cs)
section
variable {cs : Nat → Option (Nat × Nat × Spec)} {nL rt : Nat} {nxt : K0} {jmp : Int → K0} {ret : Option AV → Mm → Prop} {lv : LV} {st : List AV} {M : Mm}
theorem g7_116 : sem (tb7 cs) sh7 nL rt (.getfield 116) nxt jmp ret lv (ar 0 :: st) M = nxt lv (ai (M 0 0) :: st) M := rfl
theorem p7_116 {x : Int} : sem (tb7 cs) sh7 nL rt (.putfield 116) nxt jmp ret lv (ai x :: ar 0 :: st) M = nxt lv st (up2 M 0 0 x) := rfl
theorem g7_7 : sem (tb7 cs) sh7 nL rt (.getfield 7) nxt jmp ret lv (ar 0 :: st) M = nxt lv (ar 1 :: st) M := rfl
theorem g7_13 : sem (tb7 cs) sh7 nL rt (.getfield 13) nxt jmp ret lv (ar 0 :: st) M = nxt lv (ar 2 :: st) M := rfl
theorem g7_16 : sem (tb7 cs) sh7 nL rt (.getfield 16) nxt jmp ret lv (ar 0 :: st) M = nxt lv (ar 3 :: st) M := rfl
theorem g7_20 : sem (tb7 cs) sh7 nL rt (.getfield 20) nxt jmp ret lv (ar 0 :: st) M = nxt lv (ar 4 :: st) M := rfl
theorem g7_23 : sem (tb7 cs) sh7 nL rt (.getfield 23) nxt jmp ret lv (ar 0 :: st) M = nxt lv (ar 5 :: st) M := rfl
theorem g7_133 : sem (tb7 cs) sh7 nL rt (.getfield 133) nxt jmp ret lv (ar 0 :: st) M = nxt lv (ai (M 0 6) :: st) M := rfl
theorem p7_133 {x : Int} : sem (tb7 cs) sh7 nL rt (.putfield 133) nxt jmp ret lv (ai x :: ar 0 :: st) M = nxt lv st (up2 M 0 6 x) := rfl
theorem g7_140 : sem (tb7 cs) sh7 nL rt (.getfield 140) nxt jmp ret lv (ar 0 :: st) M = nxt lv (ai (M 0 7) :: st) M := rfl
theorem p7_140 {x : Int} : sem (tb7 cs) sh7 nL rt (.putfield 140) nxt jmp ret lv (ai x :: ar 0 :: st) M = nxt lv st (up2 M 0 7 x) := rfl
theorem g7_157 : sem (tb7 cs) sh7 nL rt (.getfield 157) nxt jmp ret lv (ar 0 :: st) M = nxt lv (ai (M 0 8) :: st) M := rfl
theorem p7_157 {x : Int} : sem (tb7 cs) sh7 nL rt (.putfield 157) nxt jmp ret lv (ai x :: ar 0 :: st) M = nxt lv st (up2 M 0 8 x) := rfl
theorem g7_147 : sem (tb7 cs) sh7 nL rt (.getfield 147) nxt jmp ret lv (ar 0 :: st) M = nxt lv (ai (M 0 9) :: st) M := rfl
theorem p7_147 {x : Int} : sem (tb7 cs) sh7 nL rt (.putfield 147) nxt jmp ret lv (ai x :: ar 0 :: st) M = nxt lv st (up2 M 0 9 x) := rfl
theorem g7_150 : sem (tb7 cs) sh7 nL rt (.getfield 150) nxt jmp ret lv (ar 0 :: st) M = nxt lv (ai (M 0 10) :: st) M := rfl
theorem p7_150 {x : Int} : sem (tb7 cs) sh7 nL rt (.putfield 150) nxt jmp ret lv (ai x :: ar 0 :: st) M = nxt lv st (up2 M 0 10 x) := rfl
theorem g7_153 : sem (tb7 cs) sh7 nL rt (.getfield 153) nxt jmp ret lv (ar 0 :: st) M = nxt lv (al (M 0 11) :: st) M := rfl
theorem p7_153 {x : Int} : sem (tb7 cs) sh7 nL rt (.putfield 153) nxt jmp ret lv (al x :: ar 0 :: st) M = nxt lv st (up2 M 0 11 x) := rfl
theorem g7_168 : sem (tb7 cs) sh7 nL rt (.getfield 168) nxt jmp ret lv (ar 0 :: st) M = nxt lv (ai (M 0 12) :: st) M := rfl
theorem p7_168 {x : Int} : sem (tb7 cs) sh7 nL rt (.putfield 168) nxt jmp ret lv (ai x :: ar 0 :: st) M = nxt lv st (up2 M 0 12 x) := rfl
theorem g7_171 : sem (tb7 cs) sh7 nL rt (.getfield 171) nxt jmp ret lv (ar 0 :: st) M = nxt lv (ai (M 0 13) :: st) M := rfl
theorem p7_171 {x : Int} : sem (tb7 cs) sh7 nL rt (.putfield 171) nxt jmp ret lv (ai x :: ar 0 :: st) M = nxt lv st (up2 M 0 13 x) := rfl
theorem g7_195 : sem (tb7 cs) sh7 nL rt (.getfield 195) nxt jmp ret lv (ar 0 :: st) M = nxt lv (ai (M 0 14) :: st) M := rfl
theorem p7_195 {x : Int} : sem (tb7 cs) sh7 nL rt (.putfield 195) nxt jmp ret lv (ai x :: ar 0 :: st) M = nxt lv st (up2 M 0 14 x) := rfl
theorem g7_27 : sem (tb7 cs) sh7 nL rt (.getfield 27) nxt jmp ret lv (ar 0 :: st) M = nxt lv (ai (M 0 15) :: st) M := rfl
theorem p7_27 {x : Int} : sem (tb7 cs) sh7 nL rt (.putfield 27) nxt jmp ret lv (ai x :: ar 0 :: st) M = nxt lv st (up2 M 0 15 x) := rfl
theorem g7_31 : sem (tb7 cs) sh7 nL rt (.getfield 31) nxt jmp ret lv (ar 0 :: st) M = nxt lv (ar 6 :: st) M := rfl
theorem g7_34 : sem (tb7 cs) sh7 nL rt (.getfield 34) nxt jmp ret lv (ar 0 :: st) M = nxt lv (ar 7 :: st) M := rfl
theorem g7_37 : sem (tb7 cs) sh7 nL rt (.getfield 37) nxt jmp ret lv (ar 0 :: st) M = nxt lv (ar 8 :: st) M := rfl
theorem g7_40 : sem (tb7 cs) sh7 nL rt (.getfield 40) nxt jmp ret lv (ar 0 :: st) M = nxt lv (ar 9 :: st) M := rfl
theorem g7_43 : sem (tb7 cs) sh7 nL rt (.getfield 43) nxt jmp ret lv (ar 0 :: st) M = nxt lv (ar 10 :: st) M := rfl
theorem g7_46 : sem (tb7 cs) sh7 nL rt (.getfield 46) nxt jmp ret lv (ar 0 :: st) M = nxt lv (ar 11 :: st) M := rfl
theorem g7_49 : sem (tb7 cs) sh7 nL rt (.getfield 49) nxt jmp ret lv (ar 0 :: st) M = nxt lv (ar 12 :: st) M := rfl
theorem g7_52 : sem (tb7 cs) sh7 nL rt (.getfield 52) nxt jmp ret lv (ar 0 :: st) M = nxt lv (ar 13 :: st) M := rfl
theorem g7_295 : sem (tb7 cs) sh7 nL rt (.getfield 295) nxt jmp ret lv (ar 0 :: st) M = nxt lv (ai (M 0 24) :: st) M := rfl
theorem p7_295 {x : Int} : sem (tb7 cs) sh7 nL rt (.putfield 295) nxt jmp ret lv (ai x :: ar 0 :: st) M = nxt lv st (up2 M 0 24 x) := rfl
theorem g7_298 : sem (tb7 cs) sh7 nL rt (.getfield 298) nxt jmp ret lv (ar 0 :: st) M = nxt lv (ai (M 0 25) :: st) M := rfl
theorem p7_298 {x : Int} : sem (tb7 cs) sh7 nL rt (.putfield 298) nxt jmp ret lv (ai x :: ar 0 :: st) M = nxt lv st (up2 M 0 25 x) := rfl
theorem g7_301 : sem (tb7 cs) sh7 nL rt (.getfield 301) nxt jmp ret lv (ar 0 :: st) M = nxt lv (ai (M 0 26) :: st) M := rfl
theorem p7_301 {x : Int} : sem (tb7 cs) sh7 nL rt (.putfield 301) nxt jmp ret lv (ai x :: ar 0 :: st) M = nxt lv st (up2 M 0 26 x) := rfl
theorem g7_56 : sem (tb7 cs) sh7 nL rt (.getfield 56) nxt jmp ret lv (ar 0 :: st) M = nxt lv (ar 14 :: st) M := rfl
theorem g7_59 : sem (tb7 cs) sh7 nL rt (.getfield 59) nxt jmp ret lv (ar 0 :: st) M = nxt lv (ar 15 :: st) M := rfl
theorem g7_62 : sem (tb7 cs) sh7 nL rt (.getfield 62) nxt jmp ret lv (ar 0 :: st) M = nxt lv (ar 16 :: st) M := rfl
theorem g7_65 : sem (tb7 cs) sh7 nL rt (.getfield 65) nxt jmp ret lv (ar 0 :: st) M = nxt lv (ar 17 :: st) M := rfl
theorem g7_68 : sem (tb7 cs) sh7 nL rt (.getfield 68) nxt jmp ret lv (ar 0 :: st) M = nxt lv (ar 18 :: st) M := rfl
theorem g7_71 : sem (tb7 cs) sh7 nL rt (.getfield 71) nxt jmp ret lv (ar 0 :: st) M = nxt lv (ar 19 :: st) M := rfl
theorem g7_74 : sem (tb7 cs) sh7 nL rt (.getfield 74) nxt jmp ret lv (ar 0 :: st) M = nxt lv (ar 20 :: st) M := rfl
theorem g7_77 : sem (tb7 cs) sh7 nL rt (.getfield 77) nxt jmp ret lv (ar 0 :: st) M = nxt lv (ar 21 :: st) M := rfl
theorem g7_80 : sem (tb7 cs) sh7 nL rt (.getfield 80) nxt jmp ret lv (ar 0 :: st) M = nxt lv (ar 22 :: st) M := rfl
theorem g7_83 : sem (tb7 cs) sh7 nL rt (.getfield 83) nxt jmp ret lv (ar 0 :: st) M = nxt lv (ar 23 :: st) M := rfl
theorem g7_86 : sem (tb7 cs) sh7 nL rt (.getfield 86) nxt jmp ret lv (ar 0 :: st) M = nxt lv (ar 24 :: st) M := rfl
theorem g7_89 : sem (tb7 cs) sh7 nL rt (.getfield 89) nxt jmp ret lv (ar 0 :: st) M = nxt lv (ar 25 :: st) M := rfl
theorem g7_92 : sem (tb7 cs) sh7 nL rt (.getfield 92) nxt jmp ret lv (ar 0 :: st) M = nxt lv (ar 26 :: st) M := rfl
theorem g7_95 : sem (tb7 cs) sh7 nL rt (.getfield 95) nxt jmp ret lv (ar 0 :: st) M = nxt lv (ar 27 :: st) M := rfl
theorem g7_98 : sem (tb7 cs) sh7 nL rt (.getfield 98) nxt jmp ret lv (ar 0 :: st) M = nxt lv (ar 28 :: st) M := rfl
theorem g7_101 : sem (tb7 cs) sh7 nL rt (.getfield 101) nxt jmp ret lv (ar 0 :: st) M = nxt lv (ar 29 :: st) M := rfl
theorem g7_362 : sem (tb7 cs) sh7 nL rt (.getfield 362) nxt jmp ret lv (ar 0 :: st) M = nxt lv (ai (M 0 43) :: st) M := rfl
theorem p7_362 {x : Int} : sem (tb7 cs) sh7 nL rt (.putfield 362) nxt jmp ret lv (ai x :: ar 0 :: st) M = nxt lv st (up2 M 0 43 x) := rfl
theorem g7_365 : sem (tb7 cs) sh7 nL rt (.getfield 365) nxt jmp ret lv (ar 0 :: st) M = nxt lv (ai (M 0 44) :: st) M := rfl
theorem p7_365 {x : Int} : sem (tb7 cs) sh7 nL rt (.putfield 365) nxt jmp ret lv (ai x :: ar 0 :: st) M = nxt lv st (up2 M 0 44 x) := rfl
theorem g7_371 : sem (tb7 cs) sh7 nL rt (.getfield 371) nxt jmp ret lv (ar 0 :: st) M = nxt lv (ai (M 0 45) :: st) M := rfl
theorem p7_371 {x : Int} : sem (tb7 cs) sh7 nL rt (.putfield 371) nxt jmp ret lv (ai x :: ar 0 :: st) M = nxt lv st (up2 M 0 45 x) := rfl
theorem g7_104 : sem (tb7 cs) sh7 nL rt (.getfield 104) nxt jmp ret lv (ar 0 :: st) M = nxt lv (ar 30 :: st) M := rfl
theorem g7_392 : sem (tb7 cs) sh7 nL rt (.getfield 392) nxt jmp ret lv (ar 0 :: st) M = nxt lv (ai (M 0 47) :: st) M := rfl
theorem p7_392 {x : Int} : sem (tb7 cs) sh7 nL rt (.putfield 392) nxt jmp ret lv (ai x :: ar 0 :: st) M = nxt lv st (up2 M 0 47 x) := rfl
theorem g7_395 : sem (tb7 cs) sh7 nL rt (.getfield 395) nxt jmp ret lv (ar 0 :: st) M = nxt lv (ai (M 0 48) :: st) M := rfl
theorem p7_395 {x : Int} : sem (tb7 cs) sh7 nL rt (.putfield 395) nxt jmp ret lv (ai x :: ar 0 :: st) M = nxt lv st (up2 M 0 48 x) := rfl
theorem g7_398 : sem (tb7 cs) sh7 nL rt (.getfield 398) nxt jmp ret lv (ar 0 :: st) M = nxt lv (ai (M 0 49) :: st) M := rfl
theorem p7_398 {x : Int} : sem (tb7 cs) sh7 nL rt (.putfield 398) nxt jmp ret lv (ai x :: ar 0 :: st) M = nxt lv st (up2 M 0 49 x) := rfl
theorem g7_401 : sem (tb7 cs) sh7 nL rt (.getfield 401) nxt jmp ret lv (ar 0 :: st) M = nxt lv (ai (M 0 50) :: st) M := rfl
theorem p7_401 {x : Int} : sem (tb7 cs) sh7 nL rt (.putfield 401) nxt jmp ret lv (ai x :: ar 0 :: st) M = nxt lv st (up2 M 0 50 x) := rfl
theorem g7_410 : sem (tb7 cs) sh7 nL rt (.getfield 410) nxt jmp ret lv (ar 0 :: st) M = nxt lv (ai (M 0 51) :: st) M := rfl
theorem p7_410 {x : Int} : sem (tb7 cs) sh7 nL rt (.putfield 410) nxt jmp ret lv (ai x :: ar 0 :: st) M = nxt lv st (up2 M 0 51 x) := rfl
theorem g7_413 : sem (tb7 cs) sh7 nL rt (.getfield 413) nxt jmp ret lv (ar 0 :: st) M = nxt lv (ai (M 0 52) :: st) M := rfl
theorem p7_413 {x : Int} : sem (tb7 cs) sh7 nL rt (.putfield 413) nxt jmp ret lv (ai x :: ar 0 :: st) M = nxt lv st (up2 M 0 52 x) := rfl
theorem g7_107 : sem (tb7 cs) sh7 nL rt (.getfield 107) nxt jmp ret lv (ar 0 :: st) M = nxt lv (ar 31 :: st) M := rfl
theorem g7_427 : sem (tb7 cs) sh7 nL rt (.getfield 427) nxt jmp ret lv (ar 0 :: st) M = nxt lv (ai (M 0 54) :: st) M := rfl
theorem p7_427 {x : Int} : sem (tb7 cs) sh7 nL rt (.putfield 427) nxt jmp ret lv (ai x :: ar 0 :: st) M = nxt lv st (up2 M 0 54 x) := rfl
theorem g7_430 : sem (tb7 cs) sh7 nL rt (.getfield 430) nxt jmp ret lv (ar 0 :: st) M = nxt lv (ai (M 0 55) :: st) M := rfl
theorem p7_430 {x : Int} : sem (tb7 cs) sh7 nL rt (.putfield 430) nxt jmp ret lv (ai x :: ar 0 :: st) M = nxt lv st (up2 M 0 55 x) := rfl
theorem g7_433 : sem (tb7 cs) sh7 nL rt (.getfield 433) nxt jmp ret lv (ar 0 :: st) M = nxt lv (ai (M 0 56) :: st) M := rfl
theorem p7_433 {x : Int} : sem (tb7 cs) sh7 nL rt (.putfield 433) nxt jmp ret lv (ai x :: ar 0 :: st) M = nxt lv st (up2 M 0 56 x) := rfl
theorem g7_110 : sem (tb7 cs) sh7 nL rt (.getfield 110) nxt jmp ret lv (ar 0 :: st) M = nxt lv (ar 32 :: st) M := rfl
theorem g7_113 : sem (tb7 cs) sh7 nL rt (.getfield 113) nxt jmp ret lv (ar 0 :: st) M = nxt lv (ar 33 :: st) M := rfl
theorem a7_1 {i : Int} : sem (tb7 cs) sh7 nL rt .iaload nxt jmp ret lv (ai i :: ar 1 :: st) M = ((0 ≤ i ∧ i < 4) ∧ nxt lv (ai (M 1 i.toNat) :: st) M) := rfl
theorem w7_1 {i x : Int} : sem (tb7 cs) sh7 nL rt .iastore nxt jmp ret lv (ai x :: ai i :: ar 1 :: st) M = ((0 ≤ i ∧ i < 4) ∧ nxt lv st (up2 M 1 i.toNat x)) := rfl
theorem a7_2 {i : Int} : sem (tb7 cs) sh7 nL rt .iaload nxt jmp ret lv (ai i :: ar 2 :: st) M = ((0 ≤ i ∧ i < 4) ∧ nxt lv (ai (M 2 i.toNat) :: st) M) := rfl
theorem w7_2 {i x : Int} : sem (tb7 cs) sh7 nL rt .iastore nxt jmp ret lv (ai x :: ai i :: ar 2 :: st) M = ((0 ≤ i ∧ i < 4) ∧ nxt lv st (up2 M 2 i.toNat x)) := rfl
theorem a7_3 {i : Int} : sem (tb7 cs) sh7 nL rt .laload nxt jmp ret lv (ai i :: ar 3 :: st) M = ((0 ≤ i ∧ i < 240) ∧ nxt lv (al (M 3 i.toNat) :: st) M) := rfl
theorem w7_3 {i x : Int} : sem (tb7 cs) sh7 nL rt .lastore nxt jmp ret lv (al x :: ai i :: ar 3 :: st) M = ((0 ≤ i ∧ i < 240) ∧ nxt lv st (up2 M 3 i.toNat x)) := rfl
theorem a7_4 {i : Int} : sem (tb7 cs) sh7 nL rt .laload nxt jmp ret lv (ai i :: ar 4 :: st) M = ((0 ≤ i ∧ i < 60) ∧ nxt lv (al (M 4 i.toNat) :: st) M) := rfl
theorem w7_4 {i x : Int} : sem (tb7 cs) sh7 nL rt .lastore nxt jmp ret lv (al x :: ai i :: ar 4 :: st) M = ((0 ≤ i ∧ i < 60) ∧ nxt lv st (up2 M 4 i.toNat x)) := rfl
theorem a7_5 {i : Int} : sem (tb7 cs) sh7 nL rt .baload nxt jmp ret lv (ai i :: ar 5 :: st) M = ((0 ≤ i ∧ i < 700) ∧ nxt lv (ai (M 5 i.toNat) :: st) M) := rfl
theorem w7_5 {i x : Int} : sem (tb7 cs) sh7 nL rt .bastore nxt jmp ret lv (ai x :: ai i :: ar 5 :: st) M = ((0 ≤ i ∧ i < 700) ∧ (-128 ≤ x ∧ x ≤ 127) ∧ nxt lv st (up2 M 5 i.toNat x)) := rfl
theorem a7_6 {i : Int} : sem (tb7 cs) sh7 nL rt .iaload nxt jmp ret lv (ai i :: ar 6 :: st) M = ((0 ≤ i ∧ i < 5) ∧ nxt lv (ai (M 6 i.toNat) :: st) M) := rfl
theorem w7_6 {i x : Int} : sem (tb7 cs) sh7 nL rt .iastore nxt jmp ret lv (ai x :: ai i :: ar 6 :: st) M = ((0 ≤ i ∧ i < 5) ∧ nxt lv st (up2 M 6 i.toNat x)) := rfl
theorem a7_7 {i : Int} : sem (tb7 cs) sh7 nL rt .iaload nxt jmp ret lv (ai i :: ar 7 :: st) M = ((0 ≤ i ∧ i < 40) ∧ nxt lv (ai (M 7 i.toNat) :: st) M) := rfl
theorem w7_7 {i x : Int} : sem (tb7 cs) sh7 nL rt .iastore nxt jmp ret lv (ai x :: ai i :: ar 7 :: st) M = ((0 ≤ i ∧ i < 40) ∧ nxt lv st (up2 M 7 i.toNat x)) := rfl
theorem a7_8 {i : Int} : sem (tb7 cs) sh7 nL rt .iaload nxt jmp ret lv (ai i :: ar 8 :: st) M = ((0 ≤ i ∧ i < 30) ∧ nxt lv (ai (M 8 i.toNat) :: st) M) := rfl
theorem w7_8 {i x : Int} : sem (tb7 cs) sh7 nL rt .iastore nxt jmp ret lv (ai x :: ai i :: ar 8 :: st) M = ((0 ≤ i ∧ i < 30) ∧ nxt lv st (up2 M 8 i.toNat x)) := rfl
theorem a7_9 {i : Int} : sem (tb7 cs) sh7 nL rt .iaload nxt jmp ret lv (ai i :: ar 9 :: st) M = ((0 ≤ i ∧ i < 70) ∧ nxt lv (ai (M 9 i.toNat) :: st) M) := rfl
theorem w7_9 {i x : Int} : sem (tb7 cs) sh7 nL rt .iastore nxt jmp ret lv (ai x :: ai i :: ar 9 :: st) M = ((0 ≤ i ∧ i < 70) ∧ nxt lv st (up2 M 9 i.toNat x)) := rfl
theorem a7_10 {i : Int} : sem (tb7 cs) sh7 nL rt .iaload nxt jmp ret lv (ai i :: ar 10 :: st) M = ((0 ≤ i ∧ i < 75) ∧ nxt lv (ai (M 10 i.toNat) :: st) M) := rfl
theorem w7_10 {i x : Int} : sem (tb7 cs) sh7 nL rt .iastore nxt jmp ret lv (ai x :: ai i :: ar 10 :: st) M = ((0 ≤ i ∧ i < 75) ∧ nxt lv st (up2 M 10 i.toNat x)) := rfl
theorem a7_11 {i : Int} : sem (tb7 cs) sh7 nL rt .iaload nxt jmp ret lv (ai i :: ar 11 :: st) M = ((0 ≤ i ∧ i < 20) ∧ nxt lv (ai (M 11 i.toNat) :: st) M) := rfl
theorem w7_11 {i x : Int} : sem (tb7 cs) sh7 nL rt .iastore nxt jmp ret lv (ai x :: ai i :: ar 11 :: st) M = ((0 ≤ i ∧ i < 20) ∧ nxt lv st (up2 M 11 i.toNat x)) := rfl
theorem a7_12 {i : Int} : sem (tb7 cs) sh7 nL rt .iaload nxt jmp ret lv (ai i :: ar 12 :: st) M = ((0 ≤ i ∧ i < 450) ∧ nxt lv (ai (M 12 i.toNat) :: st) M) := rfl
theorem w7_12 {i x : Int} : sem (tb7 cs) sh7 nL rt .iastore nxt jmp ret lv (ai x :: ai i :: ar 12 :: st) M = ((0 ≤ i ∧ i < 450) ∧ nxt lv st (up2 M 12 i.toNat x)) := rfl
theorem a7_13 {i : Int} : sem (tb7 cs) sh7 nL rt .baload nxt jmp ret lv (ai i :: ar 13 :: st) M = ((0 ≤ i ∧ i < 3) ∧ nxt lv (ai (M 13 i.toNat) :: st) M) := rfl
theorem w7_13 {i x : Int} : sem (tb7 cs) sh7 nL rt .bastore nxt jmp ret lv (ai x :: ai i :: ar 13 :: st) M = ((0 ≤ i ∧ i < 3) ∧ (0 ≤ x ∧ x ≤ 1) ∧ nxt lv st (up2 M 13 i.toNat x)) := rfl
theorem a7_14 {i : Int} : sem (tb7 cs) sh7 nL rt .iaload nxt jmp ret lv (ai i :: ar 14 :: st) M = ((0 ≤ i ∧ i < 7) ∧ nxt lv (ai (M 14 i.toNat) :: st) M) := rfl
theorem w7_14 {i x : Int} : sem (tb7 cs) sh7 nL rt .iastore nxt jmp ret lv (ai x :: ai i :: ar 14 :: st) M = ((0 ≤ i ∧ i < 7) ∧ nxt lv st (up2 M 14 i.toNat x)) := rfl
theorem a7_15 {i : Int} : sem (tb7 cs) sh7 nL rt .iaload nxt jmp ret lv (ai i :: ar 15 :: st) M = ((0 ≤ i ∧ i < 7) ∧ nxt lv (ai (M 15 i.toNat) :: st) M) := rfl
theorem w7_15 {i x : Int} : sem (tb7 cs) sh7 nL rt .iastore nxt jmp ret lv (ai x :: ai i :: ar 15 :: st) M = ((0 ≤ i ∧ i < 7) ∧ nxt lv st (up2 M 15 i.toNat x)) := rfl
theorem a7_16 {i : Int} : sem (tb7 cs) sh7 nL rt .iaload nxt jmp ret lv (ai i :: ar 16 :: st) M = ((0 ≤ i ∧ i < 7) ∧ nxt lv (ai (M 16 i.toNat) :: st) M) := rfl
theorem w7_16 {i x : Int} : sem (tb7 cs) sh7 nL rt .iastore nxt jmp ret lv (ai x :: ai i :: ar 16 :: st) M = ((0 ≤ i ∧ i < 7) ∧ nxt lv st (up2 M 16 i.toNat x)) := rfl
theorem a7_17 {i : Int} : sem (tb7 cs) sh7 nL rt .iaload nxt jmp ret lv (ai i :: ar 17 :: st) M = ((0 ≤ i ∧ i < 24) ∧ nxt lv (ai (M 17 i.toNat) :: st) M) := rfl
theorem w7_17 {i x : Int} : sem (tb7 cs) sh7 nL rt .iastore nxt jmp ret lv (ai x :: ai i :: ar 17 :: st) M = ((0 ≤ i ∧ i < 24) ∧ nxt lv st (up2 M 17 i.toNat x)) := rfl
theorem a7_18 {i : Int} : sem (tb7 cs) sh7 nL rt .iaload nxt jmp ret lv (ai i :: ar 18 :: st) M = ((0 ≤ i ∧ i < 24) ∧ nxt lv (ai (M 18 i.toNat) :: st) M) := rfl
theorem w7_18 {i x : Int} : sem (tb7 cs) sh7 nL rt .iastore nxt jmp ret lv (ai x :: ai i :: ar 18 :: st) M = ((0 ≤ i ∧ i < 24) ∧ nxt lv st (up2 M 18 i.toNat x)) := rfl
theorem a7_19 {i : Int} : sem (tb7 cs) sh7 nL rt .iaload nxt jmp ret lv (ai i :: ar 19 :: st) M = ((0 ≤ i ∧ i < 3) ∧ nxt lv (ai (M 19 i.toNat) :: st) M) := rfl
theorem w7_19 {i x : Int} : sem (tb7 cs) sh7 nL rt .iastore nxt jmp ret lv (ai x :: ai i :: ar 19 :: st) M = ((0 ≤ i ∧ i < 3) ∧ nxt lv st (up2 M 19 i.toNat x)) := rfl
theorem a7_20 {i : Int} : sem (tb7 cs) sh7 nL rt .iaload nxt jmp ret lv (ai i :: ar 20 :: st) M = ((0 ≤ i ∧ i < 3) ∧ nxt lv (ai (M 20 i.toNat) :: st) M) := rfl
theorem w7_20 {i x : Int} : sem (tb7 cs) sh7 nL rt .iastore nxt jmp ret lv (ai x :: ai i :: ar 20 :: st) M = ((0 ≤ i ∧ i < 3) ∧ nxt lv st (up2 M 20 i.toNat x)) := rfl
theorem a7_21 {i : Int} : sem (tb7 cs) sh7 nL rt .iaload nxt jmp ret lv (ai i :: ar 21 :: st) M = ((0 ≤ i ∧ i < 3) ∧ nxt lv (ai (M 21 i.toNat) :: st) M) := rfl
theorem w7_21 {i x : Int} : sem (tb7 cs) sh7 nL rt .iastore nxt jmp ret lv (ai x :: ai i :: ar 21 :: st) M = ((0 ≤ i ∧ i < 3) ∧ nxt lv st (up2 M 21 i.toNat x)) := rfl
theorem a7_22 {i : Int} : sem (tb7 cs) sh7 nL rt .iaload nxt jmp ret lv (ai i :: ar 22 :: st) M = ((0 ≤ i ∧ i < 7) ∧ nxt lv (ai (M 22 i.toNat) :: st) M) := rfl
theorem w7_22 {i x : Int} : sem (tb7 cs) sh7 nL rt .iastore nxt jmp ret lv (ai x :: ai i :: ar 22 :: st) M = ((0 ≤ i ∧ i < 7) ∧ nxt lv st (up2 M 22 i.toNat x)) := rfl
theorem a7_23 {i : Int} : sem (tb7 cs) sh7 nL rt .iaload nxt jmp ret lv (ai i :: ar 23 :: st) M = ((0 ≤ i ∧ i < 7) ∧ nxt lv (ai (M 23 i.toNat) :: st) M) := rfl
theorem w7_23 {i x : Int} : sem (tb7 cs) sh7 nL rt .iastore nxt jmp ret lv (ai x :: ai i :: ar 23 :: st) M = ((0 ≤ i ∧ i < 7) ∧ nxt lv st (up2 M 23 i.toNat x)) := rfl
theorem a7_24 {i : Int} : sem (tb7 cs) sh7 nL rt .iaload nxt jmp ret lv (ai i :: ar 24 :: st) M = ((0 ≤ i ∧ i < 7) ∧ nxt lv (ai (M 24 i.toNat) :: st) M) := rfl
theorem w7_24 {i x : Int} : sem (tb7 cs) sh7 nL rt .iastore nxt jmp ret lv (ai x :: ai i :: ar 24 :: st) M = ((0 ≤ i ∧ i < 7) ∧ nxt lv st (up2 M 24 i.toNat x)) := rfl
theorem a7_25 {i : Int} : sem (tb7 cs) sh7 nL rt .iaload nxt jmp ret lv (ai i :: ar 25 :: st) M = ((0 ≤ i ∧ i < 7) ∧ nxt lv (ai (M 25 i.toNat) :: st) M) := rfl
theorem w7_25 {i x : Int} : sem (tb7 cs) sh7 nL rt .iastore nxt jmp ret lv (ai x :: ai i :: ar 25 :: st) M = ((0 ≤ i ∧ i < 7) ∧ nxt lv st (up2 M 25 i.toNat x)) := rfl
theorem a7_26 {i : Int} : sem (tb7 cs) sh7 nL rt .iaload nxt jmp ret lv (ai i :: ar 26 :: st) M = ((0 ≤ i ∧ i < 7) ∧ nxt lv (ai (M 26 i.toNat) :: st) M) := rfl
theorem w7_26 {i x : Int} : sem (tb7 cs) sh7 nL rt .iastore nxt jmp ret lv (ai x :: ai i :: ar 26 :: st) M = ((0 ≤ i ∧ i < 7) ∧ nxt lv st (up2 M 26 i.toNat x)) := rfl
theorem a7_27 {i : Int} : sem (tb7 cs) sh7 nL rt .iaload nxt jmp ret lv (ai i :: ar 27 :: st) M = ((0 ≤ i ∧ i < 21) ∧ nxt lv (ai (M 27 i.toNat) :: st) M) := rfl
theorem w7_27 {i x : Int} : sem (tb7 cs) sh7 nL rt .iastore nxt jmp ret lv (ai x :: ai i :: ar 27 :: st) M = ((0 ≤ i ∧ i < 21) ∧ nxt lv st (up2 M 27 i.toNat x)) := rfl
theorem a7_28 {i : Int} : sem (tb7 cs) sh7 nL rt .iaload nxt jmp ret lv (ai i :: ar 28 :: st) M = ((0 ≤ i ∧ i < 21) ∧ nxt lv (ai (M 28 i.toNat) :: st) M) := rfl
theorem w7_28 {i x : Int} : sem (tb7 cs) sh7 nL rt .iastore nxt jmp ret lv (ai x :: ai i :: ar 28 :: st) M = ((0 ≤ i ∧ i < 21) ∧ nxt lv st (up2 M 28 i.toNat x)) := rfl
theorem a7_29 {i : Int} : sem (tb7 cs) sh7 nL rt .iaload nxt jmp ret lv (ai i :: ar 29 :: st) M = ((0 ≤ i ∧ i < 168) ∧ nxt lv (ai (M 29 i.toNat) :: st) M) := rfl
theorem w7_29 {i x : Int} : sem (tb7 cs) sh7 nL rt .iastore nxt jmp ret lv (ai x :: ai i :: ar 29 :: st) M = ((0 ≤ i ∧ i < 168) ∧ nxt lv st (up2 M 29 i.toNat x)) := rfl
theorem a7_30 {i : Int} : sem (tb7 cs) sh7 nL rt .iaload nxt jmp ret lv (ai i :: ar 30 :: st) M = ((0 ≤ i ∧ i < 7) ∧ nxt lv (ai (M 30 i.toNat) :: st) M) := rfl
theorem w7_30 {i x : Int} : sem (tb7 cs) sh7 nL rt .iastore nxt jmp ret lv (ai x :: ai i :: ar 30 :: st) M = ((0 ≤ i ∧ i < 7) ∧ nxt lv st (up2 M 30 i.toNat x)) := rfl
theorem a7_31 {i : Int} : sem (tb7 cs) sh7 nL rt .iaload nxt jmp ret lv (ai i :: ar 31 :: st) M = ((0 ≤ i ∧ i < 7) ∧ nxt lv (ai (M 31 i.toNat) :: st) M) := rfl
theorem w7_31 {i x : Int} : sem (tb7 cs) sh7 nL rt .iastore nxt jmp ret lv (ai x :: ai i :: ar 31 :: st) M = ((0 ≤ i ∧ i < 7) ∧ nxt lv st (up2 M 31 i.toNat x)) := rfl
theorem a7_32 {i : Int} : sem (tb7 cs) sh7 nL rt .iaload nxt jmp ret lv (ai i :: ar 32 :: st) M = ((0 ≤ i ∧ i < 9) ∧ nxt lv (ai (M 32 i.toNat) :: st) M) := rfl
theorem w7_32 {i x : Int} : sem (tb7 cs) sh7 nL rt .iastore nxt jmp ret lv (ai x :: ai i :: ar 32 :: st) M = ((0 ≤ i ∧ i < 9) ∧ nxt lv st (up2 M 32 i.toNat x)) := rfl
theorem a7_33 {i : Int} : sem (tb7 cs) sh7 nL rt .iaload nxt jmp ret lv (ai i :: ar 33 :: st) M = ((0 ≤ i ∧ i < 9) ∧ nxt lv (ai (M 33 i.toNat) :: st) M) := rfl
theorem w7_33 {i x : Int} : sem (tb7 cs) sh7 nL rt .iastore nxt jmp ret lv (ai x :: ai i :: ar 33 :: st) M = ((0 ≤ i ∧ i < 9) ∧ nxt lv st (up2 M 33 i.toNat x)) := rfl
theorem k7_166 : sem (tb7 cs) sh7 nL rt (.ldc 166) nxt jmp ret lv st M = nxt lv (ai (100000) :: st) M := rfl
theorem k7_167 : sem (tb7 cs) sh7 nL rt (.ldc 167) nxt jmp ret lv st M = nxt lv (ai (1000000) :: st) M := rfl
theorem k7_119 : sem (tb7 cs) sh7 nL rt (.ldc2_w 119) nxt jmp ret lv st M = nxt lv (al (3) :: st) M := rfl
theorem k7_160 : sem (tb7 cs) sh7 nL rt (.ldc2_w 160) nxt jmp ret lv st M = nxt lv (al (-1) :: st) M := rfl
theorem k7_162 : sem (tb7 cs) sh7 nL rt (.ldc2_w 162) nxt jmp ret lv st M = nxt lv (al (27) :: st) M := rfl
theorem k7_164 : sem (tb7 cs) sh7 nL rt (.ldc2_w 164) nxt jmp ret lv st M = nxt lv (al (96) :: st) M := rfl
theorem k7_261 : sem (tb7 cs) sh7 nL rt (.ldc2_w 261) nxt jmp ret lv st M = nxt lv (al (316452499) :: st) M := rfl
theorem k7_263 : sem (tb7 cs) sh7 nL rt (.ldc2_w 263) nxt jmp ret lv st M = nxt lv (al (8798) :: st) M := rfl
theorem k7_246 : sem (tb7 cs) sh7 nL rt (.ldc2_w 246) nxt jmp ret lv st M = nxt lv (al (3554408) :: st) M := rfl
theorem k7_265 : sem (tb7 cs) sh7 nL rt (.ldc2_w 265) nxt jmp ret lv st M = nxt lv (al (298288) :: st) M := rfl
theorem k7_227 : sem (tb7 cs) sh7 nL rt (.ldc2_w 227) nxt jmp ret lv st M = nxt lv (al (38444009) :: st) M := rfl
theorem k7_202 : sem (tb7 cs) sh7 nL rt (.ldc2_w 202) nxt jmp ret lv st M = nxt lv (al (4555648) :: st) M := rfl
theorem k7_207 : sem (tb7 cs) sh7 nL rt (.ldc2_w 207) nxt jmp ret lv st M = nxt lv (al (404931) :: st) M := rfl
theorem k7_236 : sem (tb7 cs) sh7 nL rt (.ldc2_w 236) nxt jmp ret lv st M = nxt lv (al (60284) :: st) M := rfl
theorem k7_213 : sem (tb7 cs) sh7 nL rt (.ldc2_w 213) nxt jmp ret lv st M = nxt lv (al (79) :: st) M := rfl
theorem k7_241 : sem (tb7 cs) sh7 nL rt (.ldc2_w 241) nxt jmp ret lv st M = nxt lv (al (453928) :: st) M := rfl
theorem k7_219 : sem (tb7 cs) sh7 nL rt (.ldc2_w 219) nxt jmp ret lv st M = nxt lv (al (311436) :: st) M := rfl
theorem k7_221 : sem (tb7 cs) sh7 nL rt (.ldc2_w 221) nxt jmp ret lv st M = nxt lv (al (555) :: st) M := rfl
theorem k7_223 : sem (tb7 cs) sh7 nL rt (.ldc2_w 223) nxt jmp ret lv st M = nxt lv (al (158537) :: st) M := rfl
theorem k7_225 : sem (tb7 cs) sh7 nL rt (.ldc2_w 225) nxt jmp ret lv st M = nxt lv (al (47) :: st) M := rfl
theorem k7_345 : sem (tb7 cs) sh7 nL rt (.ldc2_w 345) nxt jmp ret lv st M = nxt lv (al (2) :: st) M := rfl
theorem k7_422 : sem (tb7 cs) sh7 nL rt (.ldc2_w 422) nxt jmp ret lv st M = nxt lv (al (999) :: st) M := rfl
theorem k7_472 : sem (tb7 cs) sh7 nL rt (.ldc2_w 472) nxt jmp ret lv st M = nxt lv (al (10) :: st) M := rfl
theorem k7_482 : sem (tb7 cs) sh7 nL rt (.ldc2_w 482) nxt jmp ret lv st M = nxt lv (al (-2) :: st) M := rfl
theorem k7_492 : sem (tb7 cs) sh7 nL rt (.ldc2_w 492) nxt jmp ret lv st M = nxt lv (al (2000000000) :: st) M := rfl
theorem k7_484 : sem (tb7 cs) sh7 nL rt (.ldc2_w 484) nxt jmp ret lv st M = nxt lv (al (1103515245) :: st) M := rfl
theorem k7_486 : sem (tb7 cs) sh7 nL rt (.ldc2_w 486) nxt jmp ret lv st M = nxt lv (al (12345) :: st) M := rfl
theorem k7_488 : sem (tb7 cs) sh7 nL rt (.ldc2_w 488) nxt jmp ret lv st M = nxt lv (al (2147483648) :: st) M := rfl
theorem k7_490 : sem (tb7 cs) sh7 nL rt (.ldc2_w 490) nxt jmp ret lv st M = nxt lv (al (65536) :: st) M := rfl
theorem k7_500 : sem (tb7 cs) sh7 nL rt (.ldc2_w 500) nxt jmp ret lv st M = nxt lv (al (20) :: st) M := rfl
theorem k7_506 : sem (tb7 cs) sh7 nL rt (.ldc2_w 506) nxt jmp ret lv st M = nxt lv (al (300) :: st) M := rfl
theorem k7_508 : sem (tb7 cs) sh7 nL rt (.ldc2_w 508) nxt jmp ret lv st M = nxt lv (al (7) :: st) M := rfl
end
def cl7 : List vw_C := [(RX7, TX7, 59)]
def tyl7 : List (Nat × FieldType) := [(0, .int), (1, .long), (2, .byte), (3, .boolean)]
def arr7 : List SC := [.inr (0, 4), .inr (0, 4), .inr (1, 240), .inr (1, 60), .inr (2, 700), .inr (0, 5), .inr (0, 40), .inr (0, 30), .inr (0, 70), .inr (0, 75), .inr (0, 20), .inr (0, 450), .inr (3, 3), .inr (0, 7), .inr (0, 7), .inr (0, 7), .inr (0, 24), .inr (0, 24), .inr (0, 3), .inr (0, 3), .inr (0, 3), .inr (0, 7), .inr (0, 7), .inr (0, 7), .inr (0, 7), .inr (0, 7), .inr (0, 21), .inr (0, 21), .inr (0, 168), .inr (0, 7), .inr (0, 7), .inr (0, 9), .inr (0, 9)]
theorem sh7_obj {k ci : Nat} {fks : List Nat} (h : sh7[k]? = some (.inl (ci, fks))) : ci = 0 ∧ fks = fk7 := by
  cases k with
  | zero => cases h; exact ⟨rfl, rfl⟩
  | succ k =>
    have h1 : arr7[k]? = some (.inl (ci, fks)) := h
    have h2 := List.mem_of_getElem? h1
    have h3 : arr7.all (fun c => c.isRight) = true := rfl
    have h4 := List.all_eq_true.mp h3 _ h2
    cases h4
theorem sh7_arr {k t n : Nat} (h : sh7[k]? = some (.inr (t, n))) : t < 4 := by
  cases k with
  | zero => cases h
  | succ k =>
    have h1 : arr7[k]? = some (.inr (t, n)) := h
    have h2 := List.mem_of_getElem? h1
    have h3 : arr7.all (fun c => match c with | .inr (t, _) => decide (t < 4) | _ => true) = true := rfl
    exact of_decide_eq_true (List.all_eq_true.mp h3 _ h2)
theorem tbG7 : ∀ x ci f, gT7 x = some (ci, f) → tbG RX7 [] cl7 x ci f := by
  intro x ci f h
  unfold gT7 at h
  split at h
  · cases h; exact ⟨RX7, TX7, 59, rfl, by decide, in_X7, Or.inl q1480⟩
  · cases h; exact ⟨RX7, TX7, 59, rfl, by decide, in_X7, Or.inl q1481⟩
  · cases h; exact ⟨RX7, TX7, 59, rfl, by decide, in_X7, Or.inl q1482⟩
  · cases h; exact ⟨RX7, TX7, 59, rfl, by decide, in_X7, Or.inl q1483⟩
  · cases h; exact ⟨RX7, TX7, 59, rfl, by decide, in_X7, Or.inl q1484⟩
  · cases h; exact ⟨RX7, TX7, 59, rfl, by decide, in_X7, Or.inl q1485⟩
  · cases h; exact ⟨RX7, TX7, 59, rfl, by decide, in_X7, Or.inl q1486⟩
  · cases h; exact ⟨RX7, TX7, 59, rfl, by decide, in_X7, Or.inl q1487⟩
  · cases h; exact ⟨RX7, TX7, 59, rfl, by decide, in_X7, Or.inl q1488⟩
  · cases h; exact ⟨RX7, TX7, 59, rfl, by decide, in_X7, Or.inl q1489⟩
  · cases h; exact ⟨RX7, TX7, 59, rfl, by decide, in_X7, Or.inl q1490⟩
  · cases h; exact ⟨RX7, TX7, 59, rfl, by decide, in_X7, Or.inl q1491⟩
  · cases h; exact ⟨RX7, TX7, 59, rfl, by decide, in_X7, Or.inl q1492⟩
  · cases h; exact ⟨RX7, TX7, 59, rfl, by decide, in_X7, Or.inl q1493⟩
  · cases h; exact ⟨RX7, TX7, 59, rfl, by decide, in_X7, Or.inl q1494⟩
  · cases h; exact ⟨RX7, TX7, 59, rfl, by decide, in_X7, Or.inl q1495⟩
  · cases h; exact ⟨RX7, TX7, 59, rfl, by decide, in_X7, Or.inl q1496⟩
  · cases h; exact ⟨RX7, TX7, 59, rfl, by decide, in_X7, Or.inl q1497⟩
  · cases h; exact ⟨RX7, TX7, 59, rfl, by decide, in_X7, Or.inl q1498⟩
  · cases h; exact ⟨RX7, TX7, 59, rfl, by decide, in_X7, Or.inl q1499⟩
  · cases h; exact ⟨RX7, TX7, 59, rfl, by decide, in_X7, Or.inl q1500⟩
  · cases h; exact ⟨RX7, TX7, 59, rfl, by decide, in_X7, Or.inl q1501⟩
  · cases h; exact ⟨RX7, TX7, 59, rfl, by decide, in_X7, Or.inl q1502⟩
  · cases h; exact ⟨RX7, TX7, 59, rfl, by decide, in_X7, Or.inl q1503⟩
  · cases h; exact ⟨RX7, TX7, 59, rfl, by decide, in_X7, Or.inl q1504⟩
  · cases h; exact ⟨RX7, TX7, 59, rfl, by decide, in_X7, Or.inl q1505⟩
  · cases h; exact ⟨RX7, TX7, 59, rfl, by decide, in_X7, Or.inl q1506⟩
  · cases h; exact ⟨RX7, TX7, 59, rfl, by decide, in_X7, Or.inl q1507⟩
  · cases h; exact ⟨RX7, TX7, 59, rfl, by decide, in_X7, Or.inl q1508⟩
  · cases h; exact ⟨RX7, TX7, 59, rfl, by decide, in_X7, Or.inl q1509⟩
  · cases h; exact ⟨RX7, TX7, 59, rfl, by decide, in_X7, Or.inl q1510⟩
  · cases h; exact ⟨RX7, TX7, 59, rfl, by decide, in_X7, Or.inl q1511⟩
  · cases h; exact ⟨RX7, TX7, 59, rfl, by decide, in_X7, Or.inl q1512⟩
  · cases h; exact ⟨RX7, TX7, 59, rfl, by decide, in_X7, Or.inl q1513⟩
  · cases h; exact ⟨RX7, TX7, 59, rfl, by decide, in_X7, Or.inl q1514⟩
  · cases h; exact ⟨RX7, TX7, 59, rfl, by decide, in_X7, Or.inl q1515⟩
  · cases h; exact ⟨RX7, TX7, 59, rfl, by decide, in_X7, Or.inl q1516⟩
  · cases h; exact ⟨RX7, TX7, 59, rfl, by decide, in_X7, Or.inl q1517⟩
  · cases h; exact ⟨RX7, TX7, 59, rfl, by decide, in_X7, Or.inl q1518⟩
  · cases h; exact ⟨RX7, TX7, 59, rfl, by decide, in_X7, Or.inl q1519⟩
  · cases h; exact ⟨RX7, TX7, 59, rfl, by decide, in_X7, Or.inl q1520⟩
  · cases h; exact ⟨RX7, TX7, 59, rfl, by decide, in_X7, Or.inl q1521⟩
  · cases h; exact ⟨RX7, TX7, 59, rfl, by decide, in_X7, Or.inl q1522⟩
  · cases h; exact ⟨RX7, TX7, 59, rfl, by decide, in_X7, Or.inl q1523⟩
  · cases h; exact ⟨RX7, TX7, 59, rfl, by decide, in_X7, Or.inl q1524⟩
  · cases h; exact ⟨RX7, TX7, 59, rfl, by decide, in_X7, Or.inl q1525⟩
  · cases h; exact ⟨RX7, TX7, 59, rfl, by decide, in_X7, Or.inl q1526⟩
  · cases h; exact ⟨RX7, TX7, 59, rfl, by decide, in_X7, Or.inl q1527⟩
  · cases h; exact ⟨RX7, TX7, 59, rfl, by decide, in_X7, Or.inl q1528⟩
  · cases h; exact ⟨RX7, TX7, 59, rfl, by decide, in_X7, Or.inl q1529⟩
  · cases h; exact ⟨RX7, TX7, 59, rfl, by decide, in_X7, Or.inl q1530⟩
  · cases h; exact ⟨RX7, TX7, 59, rfl, by decide, in_X7, Or.inl q1531⟩
  · cases h; exact ⟨RX7, TX7, 59, rfl, by decide, in_X7, Or.inl q1532⟩
  · cases h; exact ⟨RX7, TX7, 59, rfl, by decide, in_X7, Or.inl q1533⟩
  · cases h; exact ⟨RX7, TX7, 59, rfl, by decide, in_X7, Or.inl q1534⟩
  · cases h; exact ⟨RX7, TX7, 59, rfl, by decide, in_X7, Or.inl q1535⟩
  · cases h; exact ⟨RX7, TX7, 59, rfl, by decide, in_X7, Or.inl q1536⟩
  · cases h; exact ⟨RX7, TX7, 59, rfl, by decide, in_X7, Or.inl q1537⟩
  · cases h; exact ⟨RX7, TX7, 59, rfl, by decide, in_X7, Or.inl q1538⟩
  · cases h
theorem tbP7 : ∀ x ci f, pT7 x = some (ci, f) → tbP RX7 [] cl7 sh7 x ci f := by
  intro x ci f h
  unfold pT7 at h
  split at h
  · cases h; exact ⟨RX7, TX7, 59, tyX7, rfl, by decide, in_X7, Or.inl q1480, tyX7_ok, nmX7, rfl, fun k fks kd h1 h2 _ => by obtain ⟨-, rfl⟩ := sh7_obj h1; cases h2; rfl⟩
  · cases h; exact ⟨RX7, TX7, 59, tyX7, rfl, by decide, in_X7, Or.inl q1486, tyX7_ok, nmX7, rfl, fun k fks kd h1 h2 _ => by obtain ⟨-, rfl⟩ := sh7_obj h1; cases h2; rfl⟩
  · cases h; exact ⟨RX7, TX7, 59, tyX7, rfl, by decide, in_X7, Or.inl q1487, tyX7_ok, nmX7, rfl, fun k fks kd h1 h2 _ => by obtain ⟨-, rfl⟩ := sh7_obj h1; cases h2; rfl⟩
  · cases h; exact ⟨RX7, TX7, 59, tyX7, rfl, by decide, in_X7, Or.inl q1488, tyX7_ok, nmX7, rfl, fun k fks kd h1 h2 _ => by obtain ⟨-, rfl⟩ := sh7_obj h1; cases h2; rfl⟩
  · cases h; exact ⟨RX7, TX7, 59, tyX7, rfl, by decide, in_X7, Or.inl q1489, tyX7_ok, nmX7, rfl, fun k fks kd h1 h2 _ => by obtain ⟨-, rfl⟩ := sh7_obj h1; cases h2; rfl⟩
  · cases h; exact ⟨RX7, TX7, 59, tyX7, rfl, by decide, in_X7, Or.inl q1490, tyX7_ok, nmX7, rfl, fun k fks kd h1 h2 _ => by obtain ⟨-, rfl⟩ := sh7_obj h1; cases h2; rfl⟩
  · cases h; exact ⟨RX7, TX7, 59, tyX7, rfl, by decide, in_X7, Or.inl q1491, tyX7_ok, nmX7, rfl, fun k fks kd h1 h2 _ => by obtain ⟨-, rfl⟩ := sh7_obj h1; cases h2; rfl⟩
  · cases h; exact ⟨RX7, TX7, 59, tyX7, rfl, by decide, in_X7, Or.inl q1492, tyX7_ok, nmX7, rfl, fun k fks kd h1 h2 _ => by obtain ⟨-, rfl⟩ := sh7_obj h1; cases h2; rfl⟩
  · cases h; exact ⟨RX7, TX7, 59, tyX7, rfl, by decide, in_X7, Or.inl q1493, tyX7_ok, nmX7, rfl, fun k fks kd h1 h2 _ => by obtain ⟨-, rfl⟩ := sh7_obj h1; cases h2; rfl⟩
  · cases h; exact ⟨RX7, TX7, 59, tyX7, rfl, by decide, in_X7, Or.inl q1494, tyX7_ok, nmX7, rfl, fun k fks kd h1 h2 _ => by obtain ⟨-, rfl⟩ := sh7_obj h1; cases h2; rfl⟩
  · cases h; exact ⟨RX7, TX7, 59, tyX7, rfl, by decide, in_X7, Or.inl q1495, tyX7_ok, nmX7, rfl, fun k fks kd h1 h2 _ => by obtain ⟨-, rfl⟩ := sh7_obj h1; cases h2; rfl⟩
  · cases h; exact ⟨RX7, TX7, 59, tyX7, rfl, by decide, in_X7, Or.inl q1504, tyX7_ok, nmX7, rfl, fun k fks kd h1 h2 _ => by obtain ⟨-, rfl⟩ := sh7_obj h1; cases h2; rfl⟩
  · cases h; exact ⟨RX7, TX7, 59, tyX7, rfl, by decide, in_X7, Or.inl q1505, tyX7_ok, nmX7, rfl, fun k fks kd h1 h2 _ => by obtain ⟨-, rfl⟩ := sh7_obj h1; cases h2; rfl⟩
  · cases h; exact ⟨RX7, TX7, 59, tyX7, rfl, by decide, in_X7, Or.inl q1506, tyX7_ok, nmX7, rfl, fun k fks kd h1 h2 _ => by obtain ⟨-, rfl⟩ := sh7_obj h1; cases h2; rfl⟩
  · cases h; exact ⟨RX7, TX7, 59, tyX7, rfl, by decide, in_X7, Or.inl q1523, tyX7_ok, nmX7, rfl, fun k fks kd h1 h2 _ => by obtain ⟨-, rfl⟩ := sh7_obj h1; cases h2; rfl⟩
  · cases h; exact ⟨RX7, TX7, 59, tyX7, rfl, by decide, in_X7, Or.inl q1524, tyX7_ok, nmX7, rfl, fun k fks kd h1 h2 _ => by obtain ⟨-, rfl⟩ := sh7_obj h1; cases h2; rfl⟩
  · cases h; exact ⟨RX7, TX7, 59, tyX7, rfl, by decide, in_X7, Or.inl q1525, tyX7_ok, nmX7, rfl, fun k fks kd h1 h2 _ => by obtain ⟨-, rfl⟩ := sh7_obj h1; cases h2; rfl⟩
  · cases h; exact ⟨RX7, TX7, 59, tyX7, rfl, by decide, in_X7, Or.inl q1527, tyX7_ok, nmX7, rfl, fun k fks kd h1 h2 _ => by obtain ⟨-, rfl⟩ := sh7_obj h1; cases h2; rfl⟩
  · cases h; exact ⟨RX7, TX7, 59, tyX7, rfl, by decide, in_X7, Or.inl q1528, tyX7_ok, nmX7, rfl, fun k fks kd h1 h2 _ => by obtain ⟨-, rfl⟩ := sh7_obj h1; cases h2; rfl⟩
  · cases h; exact ⟨RX7, TX7, 59, tyX7, rfl, by decide, in_X7, Or.inl q1529, tyX7_ok, nmX7, rfl, fun k fks kd h1 h2 _ => by obtain ⟨-, rfl⟩ := sh7_obj h1; cases h2; rfl⟩
  · cases h; exact ⟨RX7, TX7, 59, tyX7, rfl, by decide, in_X7, Or.inl q1530, tyX7_ok, nmX7, rfl, fun k fks kd h1 h2 _ => by obtain ⟨-, rfl⟩ := sh7_obj h1; cases h2; rfl⟩
  · cases h; exact ⟨RX7, TX7, 59, tyX7, rfl, by decide, in_X7, Or.inl q1531, tyX7_ok, nmX7, rfl, fun k fks kd h1 h2 _ => by obtain ⟨-, rfl⟩ := sh7_obj h1; cases h2; rfl⟩
  · cases h; exact ⟨RX7, TX7, 59, tyX7, rfl, by decide, in_X7, Or.inl q1532, tyX7_ok, nmX7, rfl, fun k fks kd h1 h2 _ => by obtain ⟨-, rfl⟩ := sh7_obj h1; cases h2; rfl⟩
  · cases h; exact ⟨RX7, TX7, 59, tyX7, rfl, by decide, in_X7, Or.inl q1534, tyX7_ok, nmX7, rfl, fun k fks kd h1 h2 _ => by obtain ⟨-, rfl⟩ := sh7_obj h1; cases h2; rfl⟩
  · cases h; exact ⟨RX7, TX7, 59, tyX7, rfl, by decide, in_X7, Or.inl q1535, tyX7_ok, nmX7, rfl, fun k fks kd h1 h2 _ => by obtain ⟨-, rfl⟩ := sh7_obj h1; cases h2; rfl⟩
  · cases h; exact ⟨RX7, TX7, 59, tyX7, rfl, by decide, in_X7, Or.inl q1536, tyX7_ok, nmX7, rfl, fun k fks kd h1 h2 _ => by obtain ⟨-, rfl⟩ := sh7_obj h1; cases h2; rfl⟩
  · cases h
theorem tbK7 : ∀ x v, kT7 x = some v → i32 v ∧ Cond.constant RX7 x (Int32.ofInt v) ∈ lw_all := by
  intro x v h
  unfold kT7 at h
  split at h
  · cases h; exact ⟨by unfold i32; omega, q1724⟩
  · cases h; exact ⟨by unfold i32; omega, q1725⟩
  · cases h
theorem tbL7 : ∀ x v, lT7 x = some v → i64 v ∧ Cond.constantLong RX7 x (Int64.ofInt v) ∈ lw_all := by
  intro x v h
  unfold lT7 at h
  split at h
  · cases h; exact ⟨by unfold i64; omega, q1666⟩
  · cases h; exact ⟨by unfold i64; omega, q1721⟩
  · cases h; exact ⟨by unfold i64; omega, q1722⟩
  · cases h; exact ⟨by unfold i64; omega, q1723⟩
  · cases h; exact ⟨by unfold i64; omega, q1730⟩
  · cases h; exact ⟨by unfold i64; omega, q1747⟩
  · cases h; exact ⟨by unfold i64; omega, q1756⟩
  · cases h; exact ⟨by unfold i64; omega, q1757⟩
  · cases h; exact ⟨by unfold i64; omega, q1762⟩
  · cases h; exact ⟨by unfold i64; omega, q1775⟩
  · cases h; exact ⟨by unfold i64; omega, q1776⟩
  · cases h; exact ⟨by unfold i64; omega, q1777⟩
  · cases h; exact ⟨by unfold i64; omega, q1782⟩
  · cases h; exact ⟨by unfold i64; omega, q1787⟩
  · cases h; exact ⟨by unfold i64; omega, q1792⟩
  · cases h; exact ⟨by unfold i64; omega, q1793⟩
  · cases h; exact ⟨by unfold i64; omega, q1794⟩
  · cases h; exact ⟨by unfold i64; omega, q1799⟩
  · cases h; exact ⟨by unfold i64; omega, q1846⟩
  · cases h; exact ⟨by unfold i64; omega, q2129⟩
  · cases h; exact ⟨by unfold i64; omega, q2215⟩
  · cases h; exact ⟨by unfold i64; omega, q2220⟩
  · cases h; exact ⟨by unfold i64; omega, q2228⟩
  · cases h; exact ⟨by unfold i64; omega, q2233⟩
  · cases h; exact ⟨by unfold i64; omega, q2234⟩
  · cases h; exact ⟨by unfold i64; omega, q2235⟩
  · cases h; exact ⟨by unfold i64; omega, q2236⟩
  · cases h; exact ⟨by unfold i64; omega, q2241⟩
  · cases h; exact ⟨by unfold i64; omega, q2266⟩
  · cases h; exact ⟨by unfold i64; omega, q2271⟩
  · cases h
theorem tbOK7 (cs : Nat → Option (Nat × Nat × Spec)) : tbOK RX7 [] cl7 sh7 tyl7 (tb7 cs) := by
  refine ⟨tbG7, tbP7, tbK7, tbL7, fun k t n h => ?_⟩
  have h1 := sh7_arr h
  rcases (show t = 0 ∨ t = 1 ∨ t = 2 ∨ t = 3 by omega) with rfl | rfl | rfl | rfl
  · exact ⟨.int, by decide, rfl⟩
  · exact ⟨.long, by decide, rfl⟩
  · exact ⟨.byte, by decide, rfl⟩
  · exact ⟨.boolean, by decide, rfl⟩
