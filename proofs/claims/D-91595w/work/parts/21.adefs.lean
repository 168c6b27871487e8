set_option maxRecDepth 100000
def f_X13_add (σ : Mem) (τ : Shp) (i0 : Nat) (a1 : Int32) (a2 : Nat) : Option (Rs Unit) :=
 (newD σ τ 11 3 fun σ1 τ1 j2 =>
bnd (f_X16_init σ1 j2 a1 a2) fun σ5 =>
getR σ5 i0 1 fun o6 =>
bnd (match o6 with
 | none => (putR σ5 i0 1 (some j2) fun σ11 =>
some σ11)
 | some j7 => (getN σ5 i0 2 fun j12 =>
putR σ5 j12 2 (some j2) fun σ13 =>
some σ13)) fun σ8 =>
putR σ8 i0 2 (some j2) fun σ10 =>
some (Sum.inl (σ10, τ1, ())))
def f_X8_take (σ : Mem) (τ : Shp) (i0 : Nat) (a1 : Int32) : Option (Rs Int32) :=
 (if a1 = 0 then
 (getI σ i0 2 fun x2 =>
thrW σ τ x2)
else
 (getI σ i0 2 fun x3 =>
putI σ i0 2 (x3 + (1 : Int32)) fun σ4 =>
getN σ4 i0 0 fun j5 =>
getI σ4 i0 2 fun x6 =>
rdI σ4 j5 160 (x6 - (1 : Int32)) fun x7 =>
some (Sum.inl (σ4, τ, x7))))
def f_X8_goIn (σ : Mem) (τ : Shp) (i0 : Nat) : Option (Rs Unit) :=
 (getI σ i0 3 fun x1 =>
bnd (if (6 : Int32) ≤ x1 then
 (some (0 : Int32))
else
 (some (1 : Int32))) fun x3 =>
bndE (f_X8_take σ τ i0 x3) fun σ5 τ5 x6 =>
getI σ5 i0 3 fun x8 =>
putI σ5 i0 3 (x8 + (1 : Int32)) fun σ9 =>
some (Sum.inl (σ9, τ5, ())))
def f_X8_goOut (σ : Mem) (τ : Shp) (i0 : Nat) (a1 : Int32) : Option (Rs Unit) :=
 (bnd2 (f_X8_look σ i0) fun σ1 x2 =>
bnd (if x2 = a1 then
 (some (1 : Int32))
else
 (some (0 : Int32))) fun x4 =>
bndE (f_X8_take σ1 τ i0 x4) fun σ6 τ6 x7 =>
getI σ6 i0 3 fun x9 =>
putI σ6 i0 3 (x9 - (1 : Int32)) fun σ10 =>
some (Sum.inl (σ10, τ6, ())))
def f_X8_number_L14 (k50 : Mem → Shp → Int32 → Option (Rs Int32)) (u0 : Nat) : Nat → Mem → Shp → Int32 → Int32 → Option (Rs Int32)
 | 0, _, _, _, _ => none
 | n + 1, σ, τ1, v1, v2 => (bnd (f_X8_isDigit σ u0) fun x6 =>
if x6 = 0 then
 (k50 σ τ1 v1)
else
 (bnd (if (4 : Int32) ≤ v2 then
 (some (0 : Int32))
else
 (some (1 : Int32))) fun x9 =>
bndE (f_X8_take σ τ1 u0 x9) fun σ11 τ11 x12 =>
wlet ((((10 : Int32) * v1) + x12) - (48 : Int32)) fun x14 =>
f_X8_number_L14 k50 u0 n σ11 τ11 x14 (v2 + (1 : Int32))))
def f_X8_number (σ : Mem) (τ : Shp) (i0 : Nat) : Option (Rs Int32) :=
 (bnd (f_X8_isDigit σ i0) fun x1 =>
bndE (f_X8_take σ τ i0 x1) fun σ2 τ2 x3 =>
wlet (x3 - (48 : Int32)) fun x5 =>
f_X8_number_L14 (fun σ15 τ15 x16 => some (Sum.inl (σ15, τ15, x16))) i0 FU σ2 τ2 x5 (1 : Int32))
def f_X8_atom_b (rec : Mem → Shp → Nat → Option (Rs Nat)) (σ : Mem) (τ : Shp) (i0 : Nat) : Option (Rs Nat) :=
 (bnd2 (f_X8_look σ i0) fun σ1 x2 =>
if x2 = (91 : Int32) then
 (bndE (f_X8_goIn σ1 τ i0) fun σ4 τ4 _ =>
bndE (rec σ4 τ4 i0) fun σ6 τ6 j7 =>
gd (isSh (sS τ6) j7 [(18, 0), (19, 0), (20, 0)]) <|
bndE (f_X8_goOut σ6 τ6 i0 (93 : Int32)) fun σ9 τ9 _ =>
some (Sum.inl (σ9, τ9, j7)))
else
 (bnd (if x2 = (-1 : Int32) then
 (some (-1 : Int32))
else
 (some (idxS 1 x2))) fun x13 =>
if x13 = (-1 : Int32) then
 (newD σ1 τ 9 1 fun σ16 τ16 j17 =>
bndE (f_X8_number σ16 τ16 i0) fun σ19 τ19 x20 =>
bnd (f_X14_init σ19 j17 x20) fun σ23 =>
some (Sum.inl (σ23, τ19, j17)))
else
 (getI σ1 i0 2 fun x24 =>
putI σ1 i0 2 (x24 + (1 : Int32)) fun σ25 =>
newD σ25 τ 10 1 fun σ26 τ26 j27 =>
bnd (f_X15_init σ26 j27 x13) fun σ29 =>
some (Sum.inl (σ29, τ26, j27)))))
def f_X8_term_b_L12 (rec : Mem → Shp → Nat → Option (Rs Nat)) (k48 : Mem → Shp → Option (Rs Nat)) (u0 : Nat) (u1 : Nat) : Nat → Mem → Shp → Option (Rs Nat)
 | 0, _, _ => none
 | n + 1, σ, τ1 => (bnd2 (f_X8_look σ u0) fun σ9 x10 =>
if x10 = (42 : Int32) then
 (bndE (f_X8_take σ9 τ1 u0 (1 : Int32)) fun σ12 τ12 x13 =>
bndE (f_X8_atom_b rec σ12 τ12 u0) fun σ16 τ16 j17 =>
gd (isSh (sS τ16) j17 [(18, 0), (19, 0), (20, 0)]) <|
bndE (f_X13_add σ16 τ16 u1 x13 j17) fun σ20 τ20 _ =>
f_X8_term_b_L12 rec k48 u0 u1 n σ20 τ20)
else
 (bnd2 (f_X8_look σ9 u0) fun σ23 x24 =>
if x24 = (47 : Int32) then
 (bndE (f_X8_take σ23 τ1 u0 (1 : Int32)) fun σ26 τ26 x27 =>
bndE (f_X8_atom_b rec σ26 τ26 u0) fun σ30 τ30 j31 =>
gd (isSh (sS τ30) j31 [(18, 0), (19, 0), (20, 0)]) <|
bndE (f_X13_add σ30 τ30 u1 x27 j31) fun σ34 τ34 _ =>
f_X8_term_b_L12 rec k48 u0 u1 n σ34 τ34)
else
 (k48 σ23 τ1)))
def f_X8_term_b (rec : Mem → Shp → Nat → Option (Rs Nat)) (σ : Mem) (τ : Shp) (i0 : Nat) : Option (Rs Nat) :=
 (newD σ τ 8 3 fun σ1 τ1 j2 =>
bndE (f_X8_atom_b rec σ1 τ1 i0) fun σ4 τ4 j5 =>
gd (isSh (sS τ4) j5 [(18, 0), (19, 0), (20, 0)]) <|
bnd (f_X13_init σ4 j2 j5) fun σ8 =>
f_X8_term_b_L12 rec (fun σ37 τ37 => some (Sum.inl (σ37, τ37, j2))) i0 j2 FU σ8 τ4)
def f_X8_sum_b_L12 (rec : Mem → Shp → Nat → Option (Rs Nat)) (k48 : Mem → Shp → Option (Rs Nat)) (u0 : Nat) (u1 : Nat) : Nat → Mem → Shp → Option (Rs Nat)
 | 0, _, _ => none
 | n + 1, σ, τ1 => (bnd2 (f_X8_look σ u0) fun σ9 x10 =>
if x10 = (43 : Int32) then
 (bndE (f_X8_take σ9 τ1 u0 (1 : Int32)) fun σ12 τ12 x13 =>
bndE (f_X8_term_b rec σ12 τ12 u0) fun σ16 τ16 j17 =>
gd (isSh (sS τ16) j17 [(18, 0), (19, 0), (20, 0)]) <|
bndE (f_X13_add σ16 τ16 u1 x13 j17) fun σ20 τ20 _ =>
f_X8_sum_b_L12 rec k48 u0 u1 n σ20 τ20)
else
 (bnd2 (f_X8_look σ9 u0) fun σ23 x24 =>
if x24 = (45 : Int32) then
 (bndE (f_X8_take σ23 τ1 u0 (1 : Int32)) fun σ26 τ26 x27 =>
bndE (f_X8_term_b rec σ26 τ26 u0) fun σ30 τ30 j31 =>
gd (isSh (sS τ30) j31 [(18, 0), (19, 0), (20, 0)]) <|
bndE (f_X13_add σ30 τ30 u1 x27 j31) fun σ34 τ34 _ =>
f_X8_sum_b_L12 rec k48 u0 u1 n σ34 τ34)
else
 (k48 σ23 τ1)))
def f_X8_sum_b (rec : Mem → Shp → Nat → Option (Rs Nat)) (σ : Mem) (τ : Shp) (i0 : Nat) : Option (Rs Nat) :=
 (newD σ τ 8 3 fun σ1 τ1 j2 =>
bndE (f_X8_term_b rec σ1 τ1 i0) fun σ4 τ4 j5 =>
gd (isSh (sS τ4) j5 [(18, 0), (19, 0), (20, 0)]) <|
bnd (f_X13_init σ4 j2 j5) fun σ8 =>
f_X8_sum_b_L12 rec (fun σ37 τ37 => some (Sum.inl (σ37, τ37, j2))) i0 j2 FU σ8 τ4)
def f_X8_sum : Nat → Mem → Shp → Nat → Option (Rs Nat)
 | 0, _, _, _ => none
 | d + 1, σ, τ, i0 => f_X8_sum_b (f_X8_sum d) σ τ i0
def f_X8_part_b_L16 (rec : Mem → Shp → Nat → Option Nat → Option (Rs Nat)) (k60 : Mem → Shp → Option (Rs Nat)) (u0 : Nat) (u2 : Nat) : Nat → Mem → Shp → Nat → Option (Rs Nat)
 | 0, _, _, _ => none
 | n + 1, σ, τ1, v3 => (bnd2 (f_X8_look σ u0) fun σ11 x12 =>
if x12 = (38 : Int32) then
 (getI σ11 u0 2 fun x14 =>
putI σ11 u0 2 (x14 + (1 : Int32)) fun σ15 =>
newD σ15 τ1 6 3 fun σ16 τ16 j17 =>
bndE (rec σ16 τ16 u0 none) fun σ21 τ21 j22 =>
gd (isSh (sS τ21) j22 [(22, 0), (17, 0), (16, 0)]) <|
bnd (f_X10_init σ21 j17 (1 : Int32) j22) fun σ27 =>
putR σ27 v3 2 (some j17) fun σ28 =>
getN σ28 v3 2 fun j29 =>
f_X8_part_b_L16 rec k60 u0 u2 n σ28 τ21 j29)
else
 (k60 σ11 τ1))
def f_X8_part_b (rec : Mem → Shp → Nat → Option Nat → Option (Rs Nat)) (σ : Mem) (τ : Shp) (i0 : Nat) (a1 : Option Nat) : Option (Rs Nat) :=
 (newD σ τ 6 3 fun σ1 τ1 j2 =>
bndE (rec σ1 τ1 i0 a1) fun σ5 τ5 j6 =>
gd (isSh (sS τ5) j6 [(22, 0), (17, 0), (16, 0)]) <|
bnd (f_X10_init σ5 j2 (1 : Int32) j6) fun σ10 =>
f_X8_part_b_L16 rec (fun σ30 τ30 => some (Sum.inl (σ30, τ30, j2))) i0 j2 FU σ10 τ5 j2)
def f_X8_condition_b_L16 (rec : Mem → Shp → Nat → Option Nat → Option (Rs Nat)) (k60 : Mem → Shp → Option (Rs Nat)) (u0 : Nat) (u2 : Nat) : Nat → Mem → Shp → Nat → Option (Rs Nat)
 | 0, _, _, _ => none
 | n + 1, σ, τ1, v3 => (bnd2 (f_X8_look σ u0) fun σ11 x12 =>
if x12 = (124 : Int32) then
 (getI σ11 u0 2 fun x14 =>
putI σ11 u0 2 (x14 + (1 : Int32)) fun σ15 =>
newD σ15 τ1 6 3 fun σ16 τ16 j17 =>
bndE (f_X8_part_b rec σ16 τ16 u0 none) fun σ21 τ21 j22 =>
gd (isSh (sS τ21) j22 [(22, 0), (17, 0), (16, 0)]) <|
bnd (f_X10_init σ21 j17 (0 : Int32) j22) fun σ27 =>
putR σ27 v3 2 (some j17) fun σ28 =>
getN σ28 v3 2 fun j29 =>
f_X8_condition_b_L16 rec k60 u0 u2 n σ28 τ21 j29)
else
 (k60 σ11 τ1))
def f_X8_condition_b (rec : Mem → Shp → Nat → Option Nat → Option (Rs Nat)) (σ : Mem) (τ : Shp) (i0 : Nat) (a1 : Option Nat) : Option (Rs Nat) :=
 (newD σ τ 6 3 fun σ1 τ1 j2 =>
bndE (f_X8_part_b rec σ1 τ1 i0 a1) fun σ5 τ5 j6 =>
gd (isSh (sS τ5) j6 [(22, 0), (17, 0), (16, 0)]) <|
bnd (f_X10_init σ5 j2 (0 : Int32) j6) fun σ10 =>
f_X8_condition_b_L16 rec (fun σ30 τ30 => some (Sum.inl (σ30, τ30, j2))) i0 j2 FU σ10 τ5 j2)
def f_X8_unit_b (rec : Mem → Shp → Nat → Option Nat → Option (Rs Nat)) (σ : Mem) (τ : Shp) (i0 : Nat) (a1 : Option Nat) : Option (Rs Nat) :=
 (bnd2 (f_X8_look σ i0) fun σ1 x2 =>
match a1 with
 | none => (if x2 = (33 : Int32) then
 (bndE (f_X8_goIn σ1 τ i0) fun σ5 τ5 _ =>
newD σ5 τ5 7 1 fun σ7 τ7 j8 =>
bndE (rec σ7 τ7 i0 none) fun σ10 τ10 j11 =>
gd (isSh (sS τ10) j11 [(22, 0), (17, 0), (16, 0)]) <|
bnd (f_X11_init σ10 j8 j11) fun σ14 =>
getI σ14 i0 3 fun x15 =>
putI σ14 i0 3 (x15 - (1 : Int32)) fun σ16 =>
some (Sum.inl (σ16, τ10, j8)))
else
 (if x2 = (40 : Int32) then
 (bndE (f_X8_goIn σ1 τ i0) fun σ18 τ18 _ =>
bndE (f_X8_condition_b rec σ18 τ18 i0 none) fun σ20 τ20 j21 =>
gd (isSh (sS τ20) j21 [(22, 0), (17, 0), (16, 0)]) <|
bndE (f_X8_goOut σ20 τ20 i0 (41 : Int32)) fun σ23 τ23 _ =>
some (Sum.inl (σ23, τ23, j21)))
else
 (bndE (f_X8_sum 8 σ1 τ i0) fun σ26 τ26 j27 =>
gd (isSh (sS τ26) j27 [(18, 0), (19, 0), (20, 0)]) <|
bnd2 (f_X8_look σ26 i0) fun σ29 x30 =>
bnd (f_X8_isSign σ29 x30) fun x31 =>
bndE (f_X8_take σ29 τ26 i0 x31) fun σ32 τ32 x33 =>
newD σ32 τ32 12 3 fun σ36 τ36 j37 =>
bndE (f_X8_sum 8 σ36 τ36 i0) fun σ40 τ40 j41 =>
gd (isSh (sS τ40) j41 [(18, 0), (19, 0), (20, 0)]) <|
bnd (f_X17_init σ40 j37 j27 j41 x33) fun σ45 =>
some (Sum.inl (σ45, τ40, j37)))))
 | some j3 => (bnd2 (f_X8_look σ1 i0) fun σ46 x47 =>
bnd (f_X8_isSign σ46 x47) fun x48 =>
bndE (f_X8_take σ46 τ i0 x48) fun σ49 τ49 x50 =>
newD σ49 τ49 12 3 fun σ53 τ53 j54 =>
bndE (f_X8_sum 8 σ53 τ53 i0) fun σ57 τ57 j58 =>
gd (isSh (sS τ57) j58 [(18, 0), (19, 0), (20, 0)]) <|
bnd (f_X17_init σ57 j54 j3 j58 x50) fun σ62 =>
some (Sum.inl (σ62, τ57, j54))))
def f_X8_unit : Nat → Mem → Shp → Nat → Option Nat → Option (Rs Nat)
 | 0, _, _, _, _ => none
 | d + 1, σ, τ, i0, a1 => f_X8_unit_b (f_X8_unit d) σ τ i0 a1
def f_X8_with (σ : Mem) (τ : Shp) (i0 : Nat) (a1 : Int32) (a2 : Nat) : Option (Rs Nat) :=
 (bnd2 (f_X8_look σ i0) fun σ1 x2 =>
bnd (if x2 = (63 : Int32) then
 (some (1 : Int32))
else
 (some (0 : Int32))) fun x4 =>
bndE (f_X8_take σ1 τ i0 x4) fun σ6 τ6 x7 =>
newD σ6 τ6 13 4 fun σ10 τ10 j11 =>
bndE (f_X8_sum 8 σ10 τ10 i0) fun σ14 τ14 j15 =>
gd (isSh (sS τ14) j15 [(18, 0), (19, 0), (20, 0)]) <|
bnd (f_X18_init σ14 j11 a1 (some a2) j15) fun σ19 =>
some (Sum.inl (σ19, τ14, j11)))
def f_X8_clause (σ : Mem) (τ : Shp) (i0 : Nat) : Option (Rs Nat) :=
 (bnd2 (f_X8_look σ i0) fun σ1 x2 =>
bnd (if x2 = (-1 : Int32) then
 (some (0 : Int32))
else
 (if (idxS 0 x2) < 0 then
 (some (0 : Int32))
else
 (some (1 : Int32)))) fun x4 =>
bndE (f_X8_take σ1 τ i0 x4) fun σ6 τ6 x7 =>
bnd2 (f_X8_look σ6 i0) fun σ9 x10 =>
bnd (if x10 = (58 : Int32) then
 (some (1 : Int32))
else
 (some (0 : Int32))) fun x12 =>
bndE (f_X8_take σ9 τ6 i0 x12) fun σ14 τ14 x15 =>
bnd2 (f_X8_look σ14 i0) fun σ17 x18 =>
if x18 = (33 : Int32) then
 (bndE (f_X8_condition_b (f_X8_unit 8) σ17 τ14 i0 none) fun σ20 τ20 j21 =>
gd (isSh (sS τ20) j21 [(22, 0), (17, 0), (16, 0)]) <|
bndE (f_X8_with σ20 τ20 i0 x7 j21) fun σ23 τ23 j24 =>
gd (isSh (sS τ23) j24 [(23, 0)]) <|
some (Sum.inl (σ23, τ23, j24)))
else
 (if x18 = (40 : Int32) then
 (bndE (f_X8_condition_b (f_X8_unit 8) σ17 τ14 i0 none) fun σ27 τ27 j28 =>
gd (isSh (sS τ27) j28 [(22, 0), (17, 0), (16, 0)]) <|
bndE (f_X8_with σ27 τ27 i0 x7 j28) fun σ30 τ30 j31 =>
gd (isSh (sS τ30) j31 [(23, 0)]) <|
some (Sum.inl (σ30, τ30, j31)))
else
 (bndE (f_X8_sum 8 σ17 τ14 i0) fun σ33 τ33 j34 =>
gd (isSh (sS τ33) j34 [(18, 0), (19, 0), (20, 0)]) <|
bnd2 (f_X8_look σ33 i0) fun σ36 x37 =>
bnd (f_X8_isSign σ36 x37) fun x38 =>
if x38 = 0 then
 (newD σ36 τ33 13 4 fun σ40 τ40 j41 =>
bnd (f_X18_init σ40 j41 x7 none j34) fun σ44 =>
some (Sum.inl (σ44, τ40, j41)))
else
 (bndE (f_X8_condition_b (f_X8_unit 8) σ36 τ33 i0 (some j34)) fun σ45 τ45 j46 =>
gd (isSh (sS τ45) j46 [(22, 0), (17, 0), (16, 0)]) <|
bndE (f_X8_with σ45 τ45 i0 x7 j46) fun σ49 τ49 j50 =>
gd (isSh (sS τ49) j50 [(23, 0)]) <|
some (Sum.inl (σ49, τ49, j50))))))
def f_X8_whole_L7 (k50 : Mem → Shp → Option (Rs Nat)) (u0 : Nat) (u1 : Nat) : Nat → Mem → Shp → Nat → Option (Rs Nat)
 | 0, _, _, _ => none
 | n + 1, σ, τ1, v2 => (bnd2 (f_X8_look σ u0) fun σ4 x5 =>
if x5 = (-1 : Int32) then
 (k50 σ4 τ1)
else
 (bnd2 (f_X8_look σ4 u0) fun σ7 x8 =>
bnd (if x8 = (59 : Int32) then
 (some (1 : Int32))
else
 (some (0 : Int32))) fun x10 =>
bndE (f_X8_take σ7 τ1 u0 x10) fun σ12 τ12 x13 =>
bndE (f_X8_clause σ12 τ12 u0) fun σ17 τ17 j18 =>
gd (isSh (sS τ17) j18 [(23, 0)]) <|
putR σ17 v2 3 (some j18) fun σ22 =>
getN σ22 v2 3 fun j23 =>
f_X8_whole_L7 k50 u0 u1 n σ22 τ17 j23))
def f_X8_whole (σ : Mem) (τ : Shp) (i0 : Nat) : Option (Rs Nat) :=
 (bndE (f_X8_clause σ τ i0) fun σ1 τ1 j2 =>
gd (isSh (sS τ1) j2 [(23, 0)]) <|
f_X8_whole_L7 (fun σ24 τ24 => some (Sum.inl (σ24, τ24, j2))) i0 j2 FU σ1 τ1 j2)
def f_X2_init (σ : Mem) (τ : Shp) (i0 : Nat) : Option (Rs Unit) :=
 (newO σ τ (i0 + 1) (1, 8) 8 fun σ1 τ1 =>
gd (isSh (sS τ1) i0 [(11, 1)]) <|
putR σ1 i0 0 (some (i0 + 1)) fun σ4 =>
newO σ4 τ1 (i0 + 2) (1, 8) 8 fun σ5 τ5 =>
gd (isSh (sS τ5) i0 [(11, 1)]) <|
putR σ5 i0 1 (some (i0 + 2)) fun σ8 =>
newO σ8 τ5 (i0 + 3) (1, 8) 8 fun σ9 τ9 =>
gd (isSh (sS τ9) i0 [(11, 1)]) <|
putR σ9 i0 2 (some (i0 + 3)) fun σ12 =>
cook σ12 τ9 i0 1 3 fun τ13 =>
some (Sum.inl (σ12, τ13, ())))
def f_X4_init_4 (σ : Mem) (τ : Shp) (i0 : Nat) : Option (Rs Unit) :=
 (newO σ τ (i0 + 1) (1, 8) 8 fun σ1 τ1 =>
gd (isSh (sS τ1) i0 [(14, 1)]) <|
putR σ1 i0 0 (some (i0 + 1)) fun σ4 =>
some (Sum.inl (σ4, τ1, ())))
def f_X7_init (σ : Mem) (τ : Shp) (i0 : Nat) (a1 : Int32) (a2 : Int32) : Option (Rs Unit) :=
 (bndE (f_X4_init_4 σ τ i0) fun σ1 τ1 _ =>
gd (isSh (sS τ1) i0 [(14, 1)]) <|
newO σ1 τ1 (i0 + 2) (1, 8) 8 fun σ3 τ3 =>
gd (isSh (sS τ3) i0 [(14, 1)]) <|
putR σ3 i0 3 (some (i0 + 2)) fun σ6 =>
putI σ6 i0 1 a1 fun σ7 =>
putI σ7 i0 4 a1 fun σ8 =>
putI σ8 i0 2 a2 fun σ9 =>
cook σ9 τ3 i0 4 5 fun τ10 =>
some (Sum.inl (σ9, τ10, ())))
def f_X4_init_3 (σ : Mem) (τ : Shp) (i0 : Nat) : Option (Rs Unit) :=
 (newO σ τ (i0 + 1) (1, 8) 8 fun σ1 τ1 =>
gd (isSh (sS τ1) i0 [(13, 1)]) <|
putR σ1 i0 0 (some (i0 + 1)) fun σ4 =>
some (Sum.inl (σ4, τ1, ())))
def f_X5_init (σ : Mem) (τ : Shp) (i0 : Nat) : Option (Rs Unit) :=
 (bndE (f_X4_init_3 σ τ i0) fun σ1 τ1 _ =>
gd (isSh (sS τ1) i0 [(13, 1)]) <|
cook σ1 τ1 i0 3 1 fun τ3 =>
some (Sum.inl (σ1, τ3, ())))
def f_X3_init (σ : Mem) (τ : Shp) (i0 : Nat) : Option (Rs Unit) :=
 (newO σ τ (i0 + 1) (6, 10) 10 fun σ1 τ1 =>
gd (isSh (sS τ1) i0 [(12, 1)]) <|
putR σ1 i0 0 (some (i0 + 1)) fun σ4 =>
newO σ4 τ1 (i0 + 2) (13, 1) 1 fun σ5 τ5 =>
gd (isSh (sS τ5) i0 [(12, 1)]) <|
bndE (f_X5_init σ5 τ5 (i0 + 2)) fun σ8 τ8 _ =>
gd (isSh (sS τ8) (i0 + 2) [(13, 0)]) <|
gd (isSh (sS τ8) i0 [(12, 1)]) <|
putR σ8 i0 1 (some (i0 + 2)) fun σ11 =>
newO σ11 τ8 (i0 + 4) (1, 3) 3 fun σ12 τ12 =>
gd (isSh (sS τ12) i0 [(12, 1)]) <|
wrI σ12 (i0 + 4) 3 (0 : Int32) (100 : Int32) fun σ15 =>
wrI σ15 (i0 + 4) 3 (1 : Int32) (500 : Int32) fun σ16 =>
wrI σ16 (i0 + 4) 3 (2 : Int32) (50 : Int32) fun σ17 =>
putR σ17 i0 2 (some (i0 + 4)) fun σ18 =>
newO σ18 τ12 (i0 + 5) (1, 8) 8 fun σ19 τ19 =>
gd (isSh (sS τ19) i0 [(12, 1)]) <|
putR σ19 i0 3 (some (i0 + 5)) fun σ22 =>
newO σ22 τ19 (i0 + 6) (1, 10) 10 fun σ23 τ23 =>
gd (isSh (sS τ23) i0 [(12, 1)]) <|
putR σ23 i0 4 (some (i0 + 6)) fun σ26 =>
putI σ26 i0 12 (-1 : Int32) fun σ27 =>
cook σ27 τ23 i0 2 17 fun τ28 =>
some (Sum.inl (σ27, τ28, ())))
def f_X1_fault (σ : Mem) (τ : Shp) : Option (Rs Int32) :=
 (newD σ τ 5 4 fun σ1 τ1 j2 =>
getI σ1 0 7 fun x5 =>
bnd (f_X8_init σ1 j2 5 x5) fun σ6 =>
bndC (f_X8_whole σ6 τ1 j2) (fun σ7 τ7 j8 =>
gd (isSh (sS τ7) j8 [(23, 0)]) <|
some (Sum.inl (σ7, τ7, (-1 : Int32)))) (fun σh τh wh => some (Sum.inl (σh, τh, wh))))
def f_X1_rules (σ : Mem) (τ : Shp) : Option (Rs Int32) :=
 (getI σ 0 8 fun x1 =>
if x1 = (12 : Int32) then
 (some (Sum.inl (σ, τ, (-1 : Int32))))
else
 (getI σ 0 8 fun x4 =>
newD σ τ 5 4 fun σ5 τ5 j6 =>
getI σ5 0 7 fun x10 =>
bnd (f_X8_init σ5 j6 5 x10) fun σ11 =>
bndC (f_X8_whole σ11 τ5 j6) (fun σ12 τ12 j13 =>
gd (isSh (sS τ12) j13 [(23, 0)]) <|
wrR σ12 6 12 x4 (some j13) fun σ16 =>
putI σ16 0 7 (0 : Int32) fun σ17 =>
getI σ17 0 8 fun x18 =>
putI σ17 0 8 (x18 + (1 : Int32)) fun σ19 =>
getI σ19 0 8 fun x20 =>
some (Sum.inl (σ19, τ12, (x20 - (1 : Int32))))) (fun σh τh wh => some (Sum.inl (σh, τh, (-1 : Int32))))))
def f_X1_filter (σ : Mem) (τ : Shp) : Option (Rs Int32) :=
 (getI σ 0 3 fun x1 =>
if x1 = (8 : Int32) then
 (some (Sum.inl (σ, τ, (-1 : Int32))))
else
 (getI σ 0 3 fun x4 =>
newO σ τ (1000 + 100 * (x4).toNatClampNeg) (12, 1) 17 fun σ5 τ5 =>
bndE (f_X3_init σ5 τ5 (1000 + 100 * (x4).toNatClampNeg)) fun σ9 τ9 _ =>
gd (isSh (sS τ9) (1000 + 100 * (x4).toNatClampNeg) [(12, 0)]) <|
wrR σ9 3 8 x4 (some (1000 + 100 * (x4).toNatClampNeg)) fun σ13 =>
getI σ13 0 3 fun x14 =>
putI σ13 0 3 (x14 + (1 : Int32)) fun σ15 =>
getI σ15 0 3 fun x16 =>
some (Sum.inl (σ15, τ9, (x16 - (1 : Int32))))))
def f_X1_cell (σ : Mem) (τ : Shp) (a1 : Int32) (a2 : Int32) (a3 : Int32) : Option (Rs Int32) :=
 (bnd (f_X1_isFilter σ a1) fun x1 =>
if x1 = 0 then
 (some (Sum.inl (σ, τ, (-1 : Int32))))
else
 (bnd (f_X1_isIn σ (a2).toInt64 (1 : Int64) (20 : Int64)) fun x3 =>
if x3 = 0 then
 (some (Sum.inl (σ, τ, (-1 : Int32))))
else
 (bnd (f_X1_isIn σ (a3).toInt64 (1 : Int64) (1000 : Int64)) fun x5 =>
if x5 = 0 then
 (some (Sum.inl (σ, τ, (-1 : Int32))))
else
 (rdN σ 3 8 a1 fun j8 =>
getI σ j8 5 fun x9 =>
if x9 = (10 : Int32) then
 (some (Sum.inl (σ, τ, (-1 : Int32))))
else
 (rdN σ 3 8 a1 fun j12 =>
getI σ j12 15 fun x13 =>
if x13 = 0 then
 (rdN σ 3 8 a1 fun j16 =>
getI σ j16 5 fun x18 =>
newO σ τ (j16 + 10 + 5 * (x18).toNatClampNeg) (14, 1) 5 fun σ19 τ19 =>
bndE (f_X7_init σ19 τ19 (j16 + 10 + 5 * (x18).toNatClampNeg) a2 a3) fun σ24 τ24 _ =>
gd (isSh (sS τ24) (j16 + 10 + 5 * (x18).toNatClampNeg) [(14, 0)]) <|
wrR σ24 (j16 + 1) 10 x18 (some (j16 + 10 + 5 * (x18).toNatClampNeg)) fun σ29 =>
getI σ29 j16 5 fun x30 =>
putI σ29 j16 5 (x30 + (1 : Int32)) fun σ31 =>
getI σ31 j16 5 fun x32 =>
some (Sum.inl (σ31, τ24, x32)))
else
 (some (Sum.inl (σ, τ, (-1 : Int32)))))))))
def f_X1_order_L51 (k114 : Mem → Shp → Option (Rs Int32)) (u1 : Int32) (u2 : Int32) : Nat → Mem → Shp → Int32 → Option (Rs Int32)
 | 0, _, _, _ => none
 | n + 1, σ, τ1, v3 => (getI σ 0 26 fun x8 =>
if x8 ≤ v3 then
 (k114 σ τ1)
else
 (rdR σ 29 6 v3 fun o11 =>
match o11 with
 | none => (newO σ τ1 (2000 + 10 * (v3).toNatClampNeg) (14, 1) 5 fun σ14 τ14 =>
rdI σ14 23 6 v3 fun x19 =>
rdI σ14 24 6 v3 fun x21 =>
bndE (f_X7_init σ14 τ14 (2000 + 10 * (v3).toNatClampNeg) x19 x21) fun σ22 τ22 _ =>
gd (isSh (sS τ22) (2000 + 10 * (v3).toNatClampNeg) [(14, 0)]) <|
wrR σ22 29 6 v3 (some (2000 + 10 * (v3).toNatClampNeg)) fun σ26 =>
rdN σ26 29 6 v3 fun j30 =>
wrR σ26 111 10 v3 (some j30) fun σ31 =>
f_X1_order_L51 k114 u1 u2 n σ31 τ22 (v3 + (1 : Int32)))
 | some j12 => (rdN σ 29 6 v3 fun j35 =>
wrR σ 111 10 v3 (some j35) fun σ36 =>
f_X1_order_L51 k114 u1 u2 n σ36 τ1 (v3 + (1 : Int32)))))
def f_X1_order (σ : Mem) (τ : Shp) (a1 : Int32) (a2 : Int32) : Option (Rs Int32) :=
 (bnd (f_X1_isIn σ (a1).toInt64 (0 : Int64) (1000000 : Int64)) fun x1 =>
if x1 = 0 then
 (some (Sum.inl (σ, τ, (-1 : Int32))))
else
 (getI σ 0 26 fun x3 =>
if x3 = 0 then
 (some (Sum.inl (σ, τ, (-1 : Int32))))
else
 (getI σ 0 21 fun x5 =>
if x5 = 0 then
 (some (Sum.inl (σ, τ, (-1 : Int32))))
else
 (if a2 = (-1 : Int32) then
 (f_X1_order_L51 (fun σ37 τ37 => putI σ37 0 27 (-1 : Int32) fun σ38 =>
bnd (f_X1_tryLayers 8 σ38 (0 : Int32) (0 : Int32) a1) fun σ39 =>
if a2 = (-1 : Int32) then
 (getI σ39 0 27 fun x41 =>
some (Sum.inl (σ39, τ37, x41)))
else
 (rdI σ39 26 6 a2 fun x43 =>
some (Sum.inl (σ39, τ37, x43)))) a1 a2 FU σ τ (0 : Int32))
else
 (getI σ 0 26 fun x44 =>
bnd (f_X1_isIn σ (a2).toInt64 (0 : Int64) ((x44 - (1 : Int32))).toInt64) fun x45 =>
if x45 = 0 then
 (some (Sum.inl (σ, τ, (-1 : Int32))))
else
 (f_X1_order_L51 (fun σ76 τ76 => putI σ76 0 27 (-1 : Int32) fun σ77 =>
bnd (f_X1_tryLayers 8 σ77 (0 : Int32) (0 : Int32) a1) fun σ78 =>
if a2 = (-1 : Int32) then
 (getI σ78 0 27 fun x80 =>
some (Sum.inl (σ78, τ76, x80)))
else
 (rdI σ78 26 6 a2 fun x82 =>
some (Sum.inl (σ78, τ76, x82)))) a1 a2 FU σ τ (0 : Int32)))))))
def f_X1_init_L257 (k304 : Mem → Shp → Option (Rs Unit)) : Nat → Mem → Shp → Int32 → Option (Rs Unit)
 | 0, _, _, _ => none
 | n + 1, σ, τ1, v1 => (if (8 : Int32) ≤ v1 then
 (k304 σ τ1)
else
 (getN σ 0 1 fun j128 =>
gd (isSh (sS τ1) j128 [(11, 0)]) <|
wrI σ (j128 + 1) 8 v1 (200 : Int32) fun σ130 =>
getN σ130 0 1 fun j131 =>
gd (isSh (sS τ1) j131 [(11, 0)]) <|
wrI σ130 (j131 + 2) 8 v1 (600 : Int32) fun σ133 =>
getN σ133 0 1 fun j134 =>
gd (isSh (sS τ1) j134 [(11, 0)]) <|
wrI σ133 (j134 + 3) 8 v1 (50 : Int32) fun σ136 =>
f_X1_init_L257 k304 n σ136 τ1 (v1 + (1 : Int32))))
def f_X1_init (σ : Mem) (τ : Shp) : Option (Rs Unit) :=
 (newO σ τ 100 (11, 1) 3 fun σ1 τ1 =>
gd (isSh (sS τ1) 0 [(10, 1)]) <|
bndE (f_X2_init σ1 τ1 100) fun σ4 τ4 _ =>
gd (isSh (sS τ4) 100 [(11, 0)]) <|
gd (isSh (sS τ4) 0 [(10, 1)]) <|
putR σ4 0 1 (some 100) fun σ7 =>
newO σ7 τ4 3 (5, 8) 8 fun σ8 τ8 =>
gd (isSh (sS τ8) 0 [(10, 1)]) <|
putR σ8 0 2 (some 3) fun σ11 =>
newO σ11 τ8 5 (2, 160) 160 fun σ12 τ12 =>
gd (isSh (sS τ12) 0 [(10, 1)]) <|
putR σ12 0 4 (some 5) fun σ15 =>
newO σ15 τ12 6 (7, 12) 12 fun σ16 τ16 =>
gd (isSh (sS τ16) 0 [(10, 1)]) <|
putR σ16 0 5 (some 6) fun σ19 =>
newO σ19 τ16 7 (1, 6) 6 fun σ20 τ20 =>
gd (isSh (sS τ20) 0 [(10, 1)]) <|
putR σ20 0 6 (some 7) fun σ23 =>
newO σ23 τ20 10 (1, 8) 8 fun σ24 τ24 =>
gd (isSh (sS τ24) 0 [(10, 1)]) <|
putR σ24 0 9 (some 10) fun σ27 =>
newO σ27 τ24 11 (1, 8) 8 fun σ28 τ28 =>
gd (isSh (sS τ28) 0 [(10, 1)]) <|
putR σ28 0 10 (some 11) fun σ31 =>
newO σ31 τ28 12 (1, 8) 8 fun σ32 τ32 =>
gd (isSh (sS τ32) 0 [(10, 1)]) <|
putR σ32 0 11 (some 12) fun σ35 =>
newO σ35 τ32 13 (1, 8) 8 fun σ36 τ36 =>
gd (isSh (sS τ36) 0 [(10, 1)]) <|
putR σ36 0 12 (some 13) fun σ39 =>
newO σ39 τ36 14 (1, 8) 8 fun σ40 τ40 =>
gd (isSh (sS τ40) 0 [(10, 1)]) <|
putR σ40 0 13 (some 14) fun σ43 =>
newO σ43 τ40 15 (1, 8) 8 fun σ44 τ44 =>
gd (isSh (sS τ44) 0 [(10, 1)]) <|
putR σ44 0 14 (some 15) fun σ47 =>
newO σ47 τ44 16 (1, 8) 8 fun σ48 τ48 =>
gd (isSh (sS τ48) 0 [(10, 1)]) <|
putR σ48 0 15 (some 16) fun σ51 =>
newO σ51 τ48 17 (1, 8) 8 fun σ52 τ52 =>
gd (isSh (sS τ52) 0 [(10, 1)]) <|
putR σ52 0 16 (some 17) fun σ55 =>
newO σ55 τ52 18 (1, 8) 8 fun σ56 τ56 =>
gd (isSh (sS τ56) 0 [(10, 1)]) <|
putR σ56 0 17 (some 18) fun σ59 =>
newO σ59 τ56 19 (1, 8) 8 fun σ60 τ60 =>
gd (isSh (sS τ60) 0 [(10, 1)]) <|
putR σ60 0 18 (some 19) fun σ63 =>
newO σ63 τ60 20 (1, 8) 8 fun σ64 τ64 =>
gd (isSh (sS τ64) 0 [(10, 1)]) <|
putR σ64 0 19 (some 20) fun σ67 =>
newO σ67 τ64 21 (1, 48024) 48024 fun σ68 τ68 =>
gd (isSh (sS τ68) 0 [(10, 1)]) <|
putR σ68 0 20 (some 21) fun σ71 =>
newO σ71 τ68 23 (1, 6) 6 fun σ72 τ72 =>
gd (isSh (sS τ72) 0 [(10, 1)]) <|
putR σ72 0 22 (some 23) fun σ75 =>
newO σ75 τ72 24 (1, 6) 6 fun σ76 τ76 =>
gd (isSh (sS τ76) 0 [(10, 1)]) <|
putR σ76 0 23 (some 24) fun σ79 =>
newO σ79 τ76 25 (1, 6) 6 fun σ80 τ80 =>
gd (isSh (sS τ80) 0 [(10, 1)]) <|
putR σ80 0 24 (some 25) fun σ83 =>
newO σ83 τ80 26 (1, 6) 6 fun σ84 τ84 =>
gd (isSh (sS τ84) 0 [(10, 1)]) <|
putR σ84 0 25 (some 26) fun σ87 =>
newO σ87 τ84 29 (6, 6) 6 fun σ88 τ88 =>
gd (isSh (sS τ88) 0 [(10, 1)]) <|
putR σ88 0 28 (some 29) fun σ91 =>
newO σ91 τ88 110 (12, 1) 17 fun σ92 τ92 =>
gd (isSh (sS τ92) 0 [(10, 1)]) <|
bndE (f_X3_init σ92 τ92 110) fun σ95 τ95 _ =>
gd (isSh (sS τ95) 110 [(12, 0)]) <|
gd (isSh (sS τ95) 0 [(10, 1)]) <|
putR σ95 0 29 (some 110) fun σ98 =>
newO σ98 τ95 31 (1, 20) 20 fun σ99 τ99 =>
gd (isSh (sS τ99) 0 [(10, 1)]) <|
putR σ99 0 30 (some 31) fun σ102 =>
newO σ102 τ99 32 (1, 4941) 4941 fun σ103 τ103 =>
gd (isSh (sS τ103) 0 [(10, 1)]) <|
putR σ103 0 31 (some 32) fun σ106 =>
newO σ106 τ103 34 (1, 100) 100 fun σ107 τ107 =>
gd (isSh (sS τ107) 0 [(10, 1)]) <|
putR σ107 0 33 (some 34) fun σ110 =>
newO σ110 τ107 35 (1, 100) 100 fun σ111 τ111 =>
gd (isSh (sS τ111) 0 [(10, 1)]) <|
putR σ111 0 34 (some 35) fun σ114 =>
newO σ114 τ111 36 (1, 100) 100 fun σ115 τ115 =>
gd (isSh (sS τ115) 0 [(10, 1)]) <|
putR σ115 0 35 (some 36) fun σ118 =>
newO σ118 τ115 37 (1, 100) 100 fun σ119 τ119 =>
gd (isSh (sS τ119) 0 [(10, 1)]) <|
putR σ119 0 36 (some 37) fun σ122 =>
newO σ122 τ119 38 (1, 100) 100 fun σ123 τ123 =>
gd (isSh (sS τ123) 0 [(10, 1)]) <|
putR σ123 0 37 (some 38) fun σ126 =>
f_X1_init_L257 (fun σ137 τ137 => cook σ137 τ137 0 0 39 fun τ138 =>
some (Sum.inl (σ137, τ138, ()))) FU σ126 τ123 (0 : Int32))
def f_X6_init_L398 (k436 : Mem → Shp → Option (Rs Unit)) : Nat → Mem → Shp → Int32 → Option (Rs Unit)
 | 0, _, _, _ => none
 | n + 1, σ, τ1, v1 => (if (8 : Int32) ≤ v1 then
 (k436 σ τ1)
else
 (getN σ 200 2 fun j194 =>
gd (isSh (sS τ1) j194 [(1, 8)]) <|
wrI σ j194 8 v1 (200 : Int32) fun σ195 =>
getN σ195 200 3 fun j196 =>
gd (isSh (sS τ1) j196 [(1, 8)]) <|
wrI σ195 j196 8 v1 (600 : Int32) fun σ197 =>
getN σ197 200 4 fun j198 =>
gd (isSh (sS τ1) j198 [(1, 8)]) <|
wrI σ197 j198 8 v1 (50 : Int32) fun σ199 =>
f_X6_init_L398 k436 n σ199 τ1 (v1 + (1 : Int32))))
def f_X6_init (σ : Mem) (τ : Shp) : Option (Rs Unit) :=
 (newO σ τ 203 (1, 8) 8 fun σ1 τ1 =>
gd (isSh (sS τ1) 200 [(24, 1)]) <|
putR σ1 200 2 (some 203) fun σ4 =>
newO σ4 τ1 204 (1, 8) 8 fun σ5 τ5 =>
gd (isSh (sS τ5) 200 [(24, 1)]) <|
putR σ5 200 3 (some 204) fun σ8 =>
newO σ8 τ5 205 (1, 8) 8 fun σ9 τ9 =>
gd (isSh (sS τ9) 200 [(24, 1)]) <|
putR σ9 200 4 (some 205) fun σ12 =>
newO σ12 τ9 206 (1, 9) 9 fun σ13 τ13 =>
gd (isSh (sS τ13) 200 [(24, 1)]) <|
putR σ13 200 5 (some 206) fun σ16 =>
newO σ16 τ13 207 (1, 90) 90 fun σ17 τ17 =>
gd (isSh (sS τ17) 200 [(24, 1)]) <|
putR σ17 200 6 (some 207) fun σ20 =>
newO σ20 τ17 208 (1, 90) 90 fun σ21 τ21 =>
gd (isSh (sS τ21) 200 [(24, 1)]) <|
putR σ21 200 7 (some 208) fun σ24 =>
newO σ24 τ21 209 (1, 90) 90 fun σ25 τ25 =>
gd (isSh (sS τ25) 200 [(24, 1)]) <|
putR σ25 200 8 (some 209) fun σ28 =>
newO σ28 τ25 210 (1, 720) 720 fun σ29 τ29 =>
gd (isSh (sS τ29) 200 [(24, 1)]) <|
putR σ29 200 9 (some 210) fun σ32 =>
newO σ32 τ29 211 (1, 720) 720 fun σ33 τ33 =>
gd (isSh (sS τ33) 200 [(24, 1)]) <|
putR σ33 200 10 (some 211) fun σ36 =>
newO σ36 τ33 212 (1, 72) 72 fun σ37 τ37 =>
gd (isSh (sS τ37) 200 [(24, 1)]) <|
putR σ37 200 11 (some 212) fun σ40 =>
newO σ40 τ37 213 (1, 9) 9 fun σ41 τ41 =>
gd (isSh (sS τ41) 200 [(24, 1)]) <|
putR σ41 200 12 (some 213) fun σ44 =>
newO σ44 τ41 214 (1, 9) 9 fun σ45 τ45 =>
gd (isSh (sS τ45) 200 [(24, 1)]) <|
putR σ45 200 13 (some 214) fun σ48 =>
newO σ48 τ45 215 (1, 9) 9 fun σ49 τ49 =>
gd (isSh (sS τ49) 200 [(24, 1)]) <|
putR σ49 200 14 (some 215) fun σ52 =>
newO σ52 τ49 216 (1, 9) 9 fun σ53 τ53 =>
gd (isSh (sS τ53) 200 [(24, 1)]) <|
putR σ53 200 15 (some 216) fun σ56 =>
newO σ56 τ53 217 (1, 9) 9 fun σ57 τ57 =>
gd (isSh (sS τ57) 200 [(24, 1)]) <|
putR σ57 200 16 (some 217) fun σ60 =>
newO σ60 τ57 218 (1, 9) 9 fun σ61 τ61 =>
gd (isSh (sS τ61) 200 [(24, 1)]) <|
putR σ61 200 17 (some 218) fun σ64 =>
newO σ64 τ61 219 (1, 9) 9 fun σ65 τ65 =>
gd (isSh (sS τ65) 200 [(24, 1)]) <|
putR σ65 200 18 (some 219) fun σ68 =>
newO σ68 τ65 220 (1, 9) 9 fun σ69 τ69 =>
gd (isSh (sS τ69) 200 [(24, 1)]) <|
putR σ69 200 19 (some 220) fun σ72 =>
newO σ72 τ69 221 (1, 9) 9 fun σ73 τ73 =>
gd (isSh (sS τ73) 200 [(24, 1)]) <|
putR σ73 200 20 (some 221) fun σ76 =>
newO σ76 τ73 222 (1, 9) 9 fun σ77 τ77 =>
gd (isSh (sS τ77) 200 [(24, 1)]) <|
putR σ77 200 21 (some 222) fun σ80 =>
newO σ80 τ77 223 (3, 9) 9 fun σ81 τ81 =>
gd (isSh (sS τ81) 200 [(24, 1)]) <|
putR σ81 200 22 (some 223) fun σ84 =>
newO σ84 τ81 224 (3, 9) 9 fun σ85 τ85 =>
gd (isSh (sS τ85) 200 [(24, 1)]) <|
putR σ85 200 23 (some 224) fun σ88 =>
newO σ88 τ85 226 (1, 160) 160 fun σ89 τ89 =>
gd (isSh (sS τ89) 200 [(24, 1)]) <|
putR σ89 200 25 (some 226) fun σ92 =>
newO σ92 τ89 227 (1, 420) 420 fun σ93 τ93 =>
gd (isSh (sS τ93) 200 [(24, 1)]) <|
putR σ93 200 26 (some 227) fun σ96 =>
newO σ96 τ93 228 (1, 5040) 5040 fun σ97 τ97 =>
gd (isSh (sS τ97) 200 [(24, 1)]) <|
putR σ97 200 27 (some 228) fun σ100 =>
newO σ100 τ97 229 (1, 12) 12 fun σ101 τ101 =>
gd (isSh (sS τ101) 200 [(24, 1)]) <|
putR σ101 200 28 (some 229) fun σ104 =>
newO σ104 τ101 236 (1, 128) 128 fun σ105 τ105 =>
gd (isSh (sS τ105) 200 [(24, 1)]) <|
putR σ105 200 35 (some 236) fun σ108 =>
newO σ108 τ105 237 (1, 200) 200 fun σ109 τ109 =>
gd (isSh (sS τ109) 200 [(24, 1)]) <|
putR σ109 200 36 (some 237) fun σ112 =>
newO σ112 τ109 239 (1, 8) 8 fun σ113 τ113 =>
gd (isSh (sS τ113) 200 [(24, 1)]) <|
putR σ113 200 38 (some 239) fun σ116 =>
newO σ116 τ113 240 (1, 48024) 48024 fun σ117 τ117 =>
gd (isSh (sS τ117) 200 [(24, 1)]) <|
putR σ117 200 39 (some 240) fun σ120 =>
newO σ120 τ117 241 (1, 8) 8 fun σ121 τ121 =>
gd (isSh (sS τ121) 200 [(24, 1)]) <|
putR σ121 200 40 (some 241) fun σ124 =>
newO σ124 τ121 242 (1, 8) 8 fun σ125 τ125 =>
gd (isSh (sS τ125) 200 [(24, 1)]) <|
putR σ125 200 41 (some 242) fun σ128 =>
newO σ128 τ125 243 (1, 48) 48 fun σ129 τ129 =>
gd (isSh (sS τ129) 200 [(24, 1)]) <|
putR σ129 200 42 (some 243) fun σ132 =>
newO σ132 τ129 244 (1, 8) 8 fun σ133 τ133 =>
gd (isSh (sS τ133) 200 [(24, 1)]) <|
putR σ133 200 43 (some 244) fun σ136 =>
newO σ136 τ133 245 (1, 8) 8 fun σ137 τ137 =>
gd (isSh (sS τ137) 200 [(24, 1)]) <|
putR σ137 200 44 (some 245) fun σ140 =>
newO σ140 τ137 246 (1, 8) 8 fun σ141 τ141 =>
gd (isSh (sS τ141) 200 [(24, 1)]) <|
putR σ141 200 45 (some 246) fun σ144 =>
newO σ144 τ141 247 (1, 10) 10 fun σ145 τ145 =>
gd (isSh (sS τ145) 200 [(24, 1)]) <|
putR σ145 200 46 (some 247) fun σ148 =>
newO σ148 τ145 248 (3, 8) 8 fun σ149 τ149 =>
gd (isSh (sS τ149) 200 [(24, 1)]) <|
putR σ149 200 47 (some 248) fun σ152 =>
newO σ152 τ149 250 (1, 6) 6 fun σ153 τ153 =>
gd (isSh (sS τ153) 200 [(24, 1)]) <|
putR σ153 200 49 (some 250) fun σ156 =>
newO σ156 τ153 251 (1, 6) 6 fun σ157 τ157 =>
gd (isSh (sS τ157) 200 [(24, 1)]) <|
putR σ157 200 50 (some 251) fun σ160 =>
newO σ160 τ157 252 (1, 6) 6 fun σ161 τ161 =>
gd (isSh (sS τ161) 200 [(24, 1)]) <|
putR σ161 200 51 (some 252) fun σ164 =>
newO σ164 τ161 253 (1, 6) 6 fun σ165 τ165 =>
gd (isSh (sS τ165) 200 [(24, 1)]) <|
putR σ165 200 52 (some 253) fun σ168 =>
newO σ168 τ165 256 (1, 20) 20 fun σ169 τ169 =>
gd (isSh (sS τ169) 200 [(24, 1)]) <|
putR σ169 200 55 (some 256) fun σ172 =>
newO σ172 τ169 257 (4, 4941) 4941 fun σ173 τ173 =>
gd (isSh (sS τ173) 200 [(24, 1)]) <|
putR σ173 200 56 (some 257) fun σ176 =>
newO σ176 τ173 259 (1, 100) 100 fun σ177 τ177 =>
gd (isSh (sS τ177) 200 [(24, 1)]) <|
putR σ177 200 58 (some 259) fun σ180 =>
newO σ180 τ177 260 (1, 100) 100 fun σ181 τ181 =>
gd (isSh (sS τ181) 200 [(24, 1)]) <|
putR σ181 200 59 (some 260) fun σ184 =>
newO σ184 τ181 261 (1, 100) 100 fun σ185 τ185 =>
gd (isSh (sS τ185) 200 [(24, 1)]) <|
putR σ185 200 60 (some 261) fun σ188 =>
newO σ188 τ185 262 (1, 100) 100 fun σ189 τ189 =>
gd (isSh (sS τ189) 200 [(24, 1)]) <|
putR σ189 200 61 (some 262) fun σ192 =>
f_X6_init_L398 (fun σ200 τ200 => getN σ200 200 12 fun j201 =>
gd (isSh (sS τ200) j201 [(1, 9)]) <|
wrI σ200 j201 9 (8 : Int32) (100 : Int32) fun σ202 =>
cook σ202 τ200 200 14 63 fun τ203 =>
some (Sum.inl (σ202, τ203, ()))) FU σ192 τ189 (0 : Int32))
def f_X1_worth (σ : Mem) (τ : Shp) (a1 : Int32) (a2 : Int32) (a3 : Int32) (a4 : Int32) (a5 : Int32) (a6 : Int32) (a7 : Int32) (a8 : Int32) : Option (Rs Int32) :=
 (bnd (f_X1_isText σ a1) fun x1 =>
if x1 = 0 then
 (thrN σ τ)
else
 (if a2 < 0 then
 (thrN σ τ)
else
 (if 0 ≤ (idxS 0 a2) then
 (bnd (f_X1_let σ a3 a4 a5 a6 a7 a8) fun σ5 =>
rdN σ5 6 12 a1 fun j7 =>
bnd (f_X18_worth σ5 (sS τ) j7 a2 7) fun x9 =>
some (Sum.inl (σ5, τ, x9)))
else
 (thrN σ τ))))
def f_X0_worth (σ : Mem) (τ : Shp) (a2 : Int32) (a3 : Int32) (a4 : Int32) (a5 : Int32) (a6 : Int32) (a7 : Int32) (a8 : Int32) (a9 : Int32) : Option (Rs Int32) :=
 (bndC (f_X1_worth σ τ a2 a3 a4 a5 a6 a7 a8 a9) (fun σ1 τ1 x2 =>
wrL σ1 300 1 (0 : Int32) (x2).toInt64 fun σ5 =>
some (Sum.inl (σ5, τ1, (0 : Int32)))) (fun σh τh wh => some (Sum.inl (σh, τh, (1 : Int32)))))
