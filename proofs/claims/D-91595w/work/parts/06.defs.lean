set_option maxRecDepth 100000
def f_X6_thrown (σ : Mem) : Option Int32 :=
 (getI σ 200 1 fun x1 =>
some x1)
def f_X6_in (σ : Mem) (a1 : Int32) (a2 : Int32) (a3 : Int32) : Option Int32 :=
 (if a1 < a2 then
 (retZ (0 : Int32))
else
 (if a3 < a1 then
 (retZ (0 : Int32))
else
 (retZ (1 : Int32))))
def f_X6_grain (σ : Mem) (a1 : Int32) (a2 : Int32) (a3 : Int32) : Option (Mem × Int32) :=
 (bnd (f_X6_in σ a1 (0 : Int32) (7 : Int32)) fun x1 =>
if x1 = 0 then
 (retZm σ (0 : Int32))
else
 (bnd (f_X6_in σ a2 (0 : Int32) (2 : Int32)) fun x3 =>
if x3 = 0 then
 (retZm σ (0 : Int32))
else
 (bnd (f_X6_in σ a3 (0 : Int32) (1000 : Int32)) fun x5 =>
if x5 = 0 then
 (retZm σ (0 : Int32))
else
 (if a2 = 0 then
 (wrI σ 203 8 a1 a3 fun σ9 =>
retZm σ9 (1 : Int32))
else
 (if a2 = (1 : Int32) then
 (wrI σ 204 8 a1 a3 fun σ12 =>
retZm σ12 (1 : Int32))
else
 (wrI σ 205 8 a1 a3 fun σ14 =>
retZm σ14 (1 : Int32)))))))
def f_X6_filter (σ : Mem) : Option (Mem × Int32) :=
 (getI σ 200 24 fun x1 =>
if x1 = (8 : Int32) then
 (some (σ, (-1 : Int32)))
else
 (getI σ 200 24 fun x4 =>
wrI σ 213 9 x4 (100 : Int32) fun σ5 =>
getI σ5 200 24 fun x7 =>
wrI σ5 214 9 x7 (500 : Int32) fun σ8 =>
getI σ8 200 24 fun x10 =>
wrI σ8 215 9 x10 (50 : Int32) fun σ11 =>
getI σ11 200 24 fun x13 =>
wrI σ11 219 9 x13 (-1 : Int32) fun σ14 =>
getI σ14 200 24 fun x16 =>
wrI σ14 241 8 x16 (-1 : Int32) fun σ17 =>
getI σ17 200 24 fun x18 =>
putI σ17 200 24 (x18 + (1 : Int32)) fun σ19 =>
getI σ19 200 24 fun x20 =>
some (σ19, (x20 - (1 : Int32)))))
def f_X6_isFilter (σ : Mem) (a1 : Int32) : Option Int32 :=
 (getI σ 200 24 fun x1 =>
bnd (f_X6_in σ a1 (0 : Int32) (x1 - (1 : Int32))) fun x2 =>
retZ x2)
def f_X6_cell (σ : Mem) (a1 : Int32) (a2 : Int32) (a3 : Int32) : Option (Mem × Int32) :=
 (bnd (f_X6_isFilter σ a1) fun x1 =>
if x1 = 0 then
 (some (σ, (-1 : Int32)))
else
 (bnd (f_X6_in σ a2 (1 : Int32) (20 : Int32)) fun x3 =>
if x3 = 0 then
 (some (σ, (-1 : Int32)))
else
 (bnd (f_X6_in σ a3 (1 : Int32) (1000 : Int32)) fun x5 =>
if x5 = 0 then
 (some (σ, (-1 : Int32)))
else
 (rdI σ 206 9 a1 fun x8 =>
if x8 = (10 : Int32) then
 (some (σ, (-1 : Int32)))
else
 (rdI σ 224 9 a1 fun x11 =>
if x11 = 0 then
 (rdI σ 206 9 a1 fun x15 =>
wrI σ 207 90 (((10 : Int32) * a1) + x15) a2 fun σ16 =>
rdI σ16 206 9 a1 fun x19 =>
wrI σ16 208 90 (((10 : Int32) * a1) + x19) a2 fun σ20 =>
rdI σ20 206 9 a1 fun x23 =>
wrI σ20 209 90 (((10 : Int32) * a1) + x23) a3 fun σ24 =>
rdI σ24 206 9 a1 fun x26 =>
wrI σ24 206 9 a1 (x26 + (1 : Int32)) fun σ27 =>
rdI σ27 206 9 a1 fun x29 =>
some (σ27, x29))
else
 (some (σ, (-1 : Int32))))))))
def f_X6_set (σ : Mem) (a1 : Int32) (a2 : Int32) (a3 : Int32) : Option (Mem × Int32) :=
 (bnd (f_X6_isFilter σ a1) fun x1 =>
if x1 = 0 then
 (retZm σ (0 : Int32))
else
 (bnd (f_X6_in σ a2 (0 : Int32) (2 : Int32)) fun x3 =>
if x3 = 0 then
 (retZm σ (0 : Int32))
else
 (bnd (if a2 = (2 : Int32) then
 (some (200 : Int32))
else
 (some (1000 : Int32))) fun x6 =>
bnd (f_X6_in σ a3 (1 : Int32) x6) fun x8 =>
if x8 = 0 then
 (retZm σ (0 : Int32))
else
 (if a2 = 0 then
 (wrI σ 213 9 a1 a3 fun σ12 =>
retZm σ12 (1 : Int32))
else
 (if a2 = (1 : Int32) then
 (wrI σ 214 9 a1 a3 fun σ15 =>
retZm σ15 (1 : Int32))
else
 (wrI σ 215 9 a1 a3 fun σ17 =>
retZm σ17 (1 : Int32)))))))
def f_X6_heldIn_L5 (k38 : Int32 → Option Int32) (σ : Mem) (u1 : Int32) (u2 : Int32) : Nat → Int32 → Int32 → Option Int32
 | 0, _, _ => none
 | n + 1, v3, v4 => (if (8 : Int32) ≤ v4 then
 (k38 v3)
else
 (rdI σ 210 720 (((8 : Int32) * (((10 : Int32) * u1) + u2)) + v4) fun x3 =>
wlet (v3 + x3) fun x4 =>
f_X6_heldIn_L5 k38 σ u1 u2 n x4 (v4 + (1 : Int32))))
def f_X6_heldIn (σ : Mem) (a1 : Int32) (a2 : Int32) : Option Int32 :=
 (f_X6_heldIn_L5 (fun x5 => some x5) σ a1 a2 FU (0 : Int32) (0 : Int32))
def f_X6_widthOf (σ : Mem) (a1 : Int32) (a2 : Int32) (a3 : Int32) : Option Int32 :=
 (divI a2 <|
some (imax (0 : Int32) (a1 - (a3 / a2))))
def f_X6_width (σ : Mem) (a1 : Int32) (a2 : Int32) : Option Int32 :=
 (rdI σ 207 90 (((10 : Int32) * a1) + a2) fun x2 =>
rdI σ 209 90 (((10 : Int32) * a1) + a2) fun x4 =>
bnd (f_X6_heldIn σ a1 a2) fun x5 =>
bnd (f_X6_widthOf σ x2 x4 x5) fun x6 =>
some x6)
def f_X6_resistOf (σ : Mem) (a1 : Int32) : Option Int32 :=
 (if a1 = 0 then
 (some (-1 : Int32))
else
 (divI a1 <|
divI a1 <|
some (imax (1 : Int32) (((10000 : Int32) / a1) / a1))))
def f_X6_bed_L4 (k31 : Option Int32) (k44 : Int32 → Option Int32) (σ : Mem) (u1 : Int32) : Nat → Int32 → Int32 → Option Int32
 | 0, _, _ => none
 | n + 1, v2, v3 => (rdI σ 206 9 u1 fun x2 =>
if x2 ≤ v3 then
 (k44 v2)
else
 (bnd (f_X6_width σ u1 v3) fun x4 =>
bnd (f_X6_resistOf σ x4) fun x5 =>
if x5 = (-1 : Int32) then
 (k31)
else
 (wlet (v2 + x5) fun x7 =>
f_X6_bed_L4 k31 k44 σ u1 n x7 (v3 + (1 : Int32)))))
def f_X6_bed (σ : Mem) (a1 : Int32) : Option Int32 :=
 (f_X6_bed_L4 (some (-1 : Int32)) (fun x8 => some x8) σ a1 FU (0 : Int32) (0 : Int32))
def f_X6_cakeOf_L4 (k30 : Int32 → Option Int32) (σ : Mem) (u1 : Int32) : Nat → Int32 → Int32 → Option Int32
 | 0, _, _ => none
 | n + 1, v2, v3 => (if (8 : Int32) ≤ v3 then
 (k30 v2)
else
 (rdI σ 212 72 (((8 : Int32) * u1) + v3) fun x3 =>
wlet (v2 + x3) fun x4 =>
f_X6_cakeOf_L4 k30 σ u1 n x4 (v3 + (1 : Int32))))
def f_X6_cakeOf (σ : Mem) (a1 : Int32) : Option Int32 :=
 (f_X6_cakeOf_L4 (fun x5 => some x5) σ a1 FU (0 : Int32) (0 : Int32))
def f_X6_pushFor_L24 (k99 : Int64 → Option Int32) (k117 : Option Int32) (σ : Mem) (u1 : Int32) (u2 : Int32) (u3 : Int32) (u4 : Int64) : Nat → Int32 → Option Int32
 | 0, _ => none
 | n + 1, v6 => (if (100000 : Int32) < v6 then
 (k117)
else
 (rdI σ 213 9 u1 fun x7 =>
divI x7 <|
divL (100 : Int64) <|
divL (100 : Int64) <|
wlet (((u2).toInt64 * ((u3).toInt64 + ((u4 * ((100 : Int64) + ((v6 / x7)).toInt64)) / (100 : Int64)))) / (100 : Int64)) fun y8 =>
wlet (lmax (v6).toInt64 y8) fun y9 =>
if (100000 : Int64) < y9 then
 (rdI σ 213 9 u1 fun x12 =>
wlet (v6 + x12) fun x13 =>
f_X6_pushFor_L24 k99 k117 σ u1 u2 u3 u4 n x13)
else
 (rdI σ 213 9 u1 fun x15 =>
if ((v6 + x15)).toInt64 ≤ y9 then
 (rdI σ 213 9 u1 fun x18 =>
wlet (v6 + x18) fun x19 =>
f_X6_pushFor_L24 k99 k117 σ u1 u2 u3 u4 n x19)
else
 (k99 y9))))
def f_X6_pushFor (σ : Mem) (a1 : Int32) (a2 : Int32) : Option Int32 :=
 (bnd (f_X6_bed σ a1) fun x1 =>
if x1 = (-1 : Int32) then
 (some (-1 : Int32))
else
 (bnd (f_X6_cakeOf σ a1) fun x3 =>
wlet (x3).toInt64 fun y4 =>
f_X6_pushFor_L24 (fun y20 => some (y20).toInt32) (some (-1 : Int32)) σ a1 a2 x1 y4 FU (0 : Int32)))
def f_X6_push (σ : Mem) (a1 : Int32) (a2 : Int32) : Option Int32 :=
 (bnd (f_X6_isFilter σ a1) fun x1 =>
if x1 = 0 then
 (some (-1 : Int32))
else
 (bnd (f_X6_in σ a2 (1 : Int32) (1000 : Int32)) fun x3 =>
if x3 = 0 then
 (some (-1 : Int32))
else
 (bnd (f_X6_pushFor σ a1 a2) fun x5 =>
some x5)))
def f_X6_isCell (σ : Mem) (a1 : Int32) (a2 : Int32) : Option Int32 :=
 (bnd (f_X6_isFilter σ a1) fun x1 =>
if x1 = 0 then
 (retZ (0 : Int32))
else
 (rdI σ 206 9 a1 fun x4 =>
bnd (f_X6_in σ a2 (0 : Int32) (x4 - (1 : Int32))) fun x5 =>
if x5 = 0 then
 (retZ (0 : Int32))
else
 (retZ (1 : Int32))))
def f_X6_celled (σ : Mem) (a1 : Int32) (a2 : Int32) (a3 : Int32) : Option Int32 :=
 (bnd (f_X6_isCell σ a1 a2) fun x1 =>
if x1 = 0 then
 (some (-1 : Int32))
else
 (if a3 = (0 : Int32) then
 (rdI σ 207 90 (((10 : Int32) * a1) + a2) fun x5 =>
some x5)
else if a3 = (1 : Int32) then
 (rdI σ 209 90 (((10 : Int32) * a1) + a2) fun x7 =>
some x7)
else if a3 = (2 : Int32) then
 (bnd (f_X6_width σ a1 a2) fun x8 =>
some x8)
else if a3 = (3 : Int32) then
 (bnd (f_X6_width σ a1 a2) fun x9 =>
bnd (f_X6_resistOf σ x9) fun x10 =>
some x10)
else if a3 = (4 : Int32) then
 (bnd (f_X6_heldIn σ a1 a2) fun x11 =>
some x11)
else 
 (some (-1 : Int32))))
def f_X6_held (σ : Mem) (a1 : Int32) (a2 : Int32) (a3 : Int32) (a4 : Int32) : Option Int32 :=
 (bnd (f_X6_isCell σ a1 a2) fun x1 =>
if x1 = 0 then
 (some (-1 : Int32))
else
 (bnd (f_X6_in σ a3 (0 : Int32) (7 : Int32)) fun x3 =>
if x3 = 0 then
 (some (-1 : Int32))
else
 (bnd (f_X6_in σ a4 (0 : Int32) (1 : Int32)) fun x5 =>
if x5 = 0 then
 (some (-1 : Int32))
else
 (wlet (((8 : Int32) * (((10 : Int32) * a1) + a2)) + a3) fun x7 =>
if a4 = 0 then
 (rdI σ 210 720 x7 fun x10 =>
some x10)
else
 (rdI σ 211 720 x7 fun x12 =>
some x12)))))
def f_X6_told (σ : Mem) (a1 : Int32) (a2 : Int32) : Option Int32 :=
 (bnd (f_X6_isFilter σ a1) fun x1 =>
if x1 = 0 then
 (some (-1 : Int32))
else
 (if a2 = (0 : Int32) then
 (rdI σ 216 9 a1 fun x5 =>
some x5)
else if a2 = (1 : Int32) then
 (rdI σ 217 9 a1 fun x7 =>
some x7)
else if a2 = (2 : Int32) then
 (rdI σ 218 9 a1 fun x9 =>
some x9)
else if a2 = (3 : Int32) then
 (bnd (f_X6_cakeOf σ a1) fun x10 =>
some x10)
else if a2 = (4 : Int32) then
 (bnd (f_X6_bed σ a1) fun x11 =>
some x11)
else if a2 = (5 : Int32) then
 (rdI σ 206 9 a1 fun x13 =>
some x13)
else if a2 = (6 : Int32) then
 (rdI σ 220 9 a1 fun x15 =>
some x15)
else if a2 = (7 : Int32) then
 (rdI σ 221 9 a1 fun x17 =>
some x17)
else if a2 = (8 : Int32) then
 (rdI σ 222 9 a1 fun x19 =>
some x19)
else 
 (some (-1 : Int32))))
def f_X6_byteOf (σ : Mem) (a1 : Int32) (a2 : Int32) (a3 : Int32) (a4 : Int32) (a5 : Int32) (a6 : Int32) : Option Int32 :=
 (bnd (if (4 : Int32) ≤ a6 then
 (if (8 : Int32) ≤ a6 then
 (if (12 : Int32) ≤ a6 then
 (if (16 : Int32) ≤ a6 then
 (some a5)
else
 (some a4))
else
 (some a3))
else
 (some a2))
else
 (some a1)) fun x2 =>
divI (4 : Int32) <|
some ((x2 >>> (((24 : Int32) - ((8 : Int32) * (a6 - a6 / (4 : Int32) * (4 : Int32)))) &&& 31)) &&& (255 : Int32)))
def f_X6_feed_L6 (k44 : Int32 → Option (Mem × Int32)) (σ : Mem) (u1 : Int32) (u2 : Int32) (u3 : Int32) (u4 : Int32) (u5 : Int32) : Nat → Int32 → Int32 → Option (Mem × Int32)
 | 0, _, _ => none
 | n + 1, v6, v7 => (if (20 : Int32) ≤ v7 then
 (k44 v6)
else
 (bnd (f_X6_byteOf σ u1 u2 u3 u4 u5 v7) fun x2 =>
bnd (if x2 = 0 then
 (some (0 : Int32))
else
 (some (1 : Int32))) fun x4 =>
wlet (v6 + x4) fun x6 =>
f_X6_feed_L6 k44 σ u1 u2 u3 u4 u5 n x6 (v7 + (1 : Int32))))
def f_X6_feed_L62 (k115 : Mem → Option (Mem × Int32)) (u1 : Int32) (u2 : Int32) (u3 : Int32) (u4 : Int32) (u5 : Int32) : Nat → Mem → Int32 → Option (Mem × Int32)
 | 0, _, _ => none
 | n + 1, σ, v7 => (if (20 : Int32) ≤ v7 then
 (k115 σ)
else
 (bnd (f_X6_byteOf σ u1 u2 u3 u4 u5 v7) fun x11 =>
if x11 = 0 then
 (f_X6_feed_L62 k115 u1 u2 u3 u4 u5 n σ (v7 + (1 : Int32)))
else
 (getI σ 200 29 fun x14 =>
wrI σ 226 160 x14 x11 fun σ15 =>
getI σ15 200 29 fun x16 =>
putI σ15 200 29 (x16 + (1 : Int32)) fun σ17 =>
f_X6_feed_L62 k115 u1 u2 u3 u4 u5 n σ17 (v7 + (1 : Int32)))))
def f_X6_feed (σ : Mem) (a1 : Int32) (a2 : Int32) (a3 : Int32) (a4 : Int32) (a5 : Int32) : Option (Mem × Int32) :=
 (f_X6_feed_L6 (fun x7 => getI σ 200 29 fun x8 =>
if (x8 + x7) ≤ (160 : Int32) then
 (f_X6_feed_L62 (fun σ18 => getI σ18 200 29 fun x19 =>
some (σ18, x19)) a1 a2 a3 a4 a5 FU σ (0 : Int32))
else
 (some (σ, (-1 : Int32)))) σ a1 a2 a3 a4 a5 FU (0 : Int32) (0 : Int32))
def f_X6_end (σ : Mem) (a1 : Int32) : Option (Mem × Int32) :=
 (if a1 < 0 then
 (retZm σ (0 : Int32))
else
 (getI σ 200 29 fun x2 =>
if a1 ≤ x2 then
 (putI σ 200 29 a1 fun σ4 =>
retZm σ4 (1 : Int32))
else
 (retZm σ (0 : Int32))))
def f_X6_look_L0 (k38 : Mem → Option (Mem × Int32)) : Nat → Mem → Option (Mem × Int32)
 | 0, _ => none
 | n + 1, σ => (getI σ 200 30 fun x1 =>
getI σ 200 29 fun x2 =>
if x2 ≤ x1 then
 (k38 σ)
else
 (getI σ 200 30 fun x5 =>
rdI σ 226 160 x5 fun x6 =>
if x6 = (32 : Int32) then
 (getI σ 200 30 fun x8 =>
putI σ 200 30 (x8 + (1 : Int32)) fun σ9 =>
f_X6_look_L0 k38 n σ9)
else
 (k38 σ)))
def f_X6_look (σ : Mem) : Option (Mem × Int32) :=
 (f_X6_look_L0 (fun σ10 => getI σ10 200 30 fun x11 =>
getI σ10 200 29 fun x12 =>
if x12 ≤ x11 then
 (some (σ10, (-1 : Int32)))
else
 (getI σ10 200 30 fun x15 =>
rdI σ10 226 160 x15 fun x16 =>
some (σ10, x16))) FU σ)
def f_X6_isLabel (σ : Mem) (a1 : Int32) : Option Int32 :=
 (if a1 = (119 : Int32) then
 (retZ (1 : Int32))
else
 (if a1 = (114 : Int32) then
 (retZ (1 : Int32))
else
 (if a1 = (99 : Int32) then
 (retZ (1 : Int32))
else
 (if a1 = (117 : Int32) then
 (retZ (1 : Int32))
else
 (retZ (0 : Int32))))))
def f_X6_bad (σ : Mem) : Option Mem :=
 (getI σ 200 31 fun x1 =>
if x1 = (-1 : Int32) then
 (getI σ 200 30 fun x3 =>
putI σ 200 31 x3 fun σ4 =>
some σ4)
else
 (getI σ 200 31 fun x5 =>
putI σ 200 31 x5 fun σ6 =>
some σ6))
def f_X6_say (σ : Mem) (a1 : Int32) : Option Mem :=
 (getI σ 200 33 fun x2 =>
wrI σ 227 420 x2 a1 fun σ3 =>
getI σ3 200 33 fun x4 =>
putI σ3 200 33 (x4 + (1 : Int32)) fun σ5 =>
some σ5)
def f_X6_isSign (σ : Mem) (a1 : Int32) : Option Int32 :=
 (if a1 = (61 : Int32) then
 (retZ (1 : Int32))
else
 (if a1 = (60 : Int32) then
 (retZ (1 : Int32))
else
 (if a1 = (62 : Int32) then
 (retZ (1 : Int32))
else
 (retZ (0 : Int32)))))
def f_X6_opens (σ : Mem) : Option (Mem × Int32) :=
 (getI σ 200 32 fun x1 =>
if x1 = (6 : Int32) then
 (bnd (f_X6_bad σ) fun σ3 =>
retZm σ3 (0 : Int32))
else
 (getI σ 200 32 fun x4 =>
putI σ 200 32 (x4 + (1 : Int32)) fun σ5 =>
getI σ5 200 30 fun x6 =>
putI σ5 200 30 (x6 + (1 : Int32)) fun σ7 =>
retZm σ7 (1 : Int32)))
def f_X6_closes (σ : Mem) (a1 : Int32) : Option Mem :=
 (getI σ 200 31 fun x1 =>
bnd (if x1 = (-1 : Int32) then
 (bnd2 (f_X6_look σ) fun σ9 x10 =>
if x10 = a1 then
 (some σ9)
else
 (bnd (f_X6_bad σ9) fun σ12 =>
some σ12))
else
 (some σ)) fun σ3 =>
getI σ3 200 30 fun x5 =>
putI σ3 200 30 (x5 + (1 : Int32)) fun σ6 =>
getI σ6 200 32 fun x7 =>
putI σ6 200 32 (x7 - (1 : Int32)) fun σ8 =>
some σ8)
def f_X6_isLetter (σ : Mem) (a1 : Int32) : Option Int32 :=
 (if a1 = (112 : Int32) then
 (retZ (1 : Int32))
else
 (if a1 = (104 : Int32) then
 (retZ (1 : Int32))
else
 (if a1 = (111 : Int32) then
 (retZ (1 : Int32))
else
 (if a1 = (105 : Int32) then
 (retZ (1 : Int32))
else
 (if a1 = (110 : Int32) then
 (retZ (1 : Int32))
else
 (if a1 = (107 : Int32) then
 (retZ (1 : Int32))
else
 (retZ (0 : Int32))))))))
def f_X6_isDigit (σ : Mem) (a1 : Int32) : Option Int32 :=
 (if a1 < (48 : Int32) then
 (retZ (0 : Int32))
else
 (if (57 : Int32) < a1 then
 (retZ (0 : Int32))
else
 (retZ (1 : Int32))))
def f_X6_number_L19 (k50 : Mem → Option Mem) (k89 : Mem → Int32 → Option Mem) : Nat → Mem → Int32 → Int32 → Option Mem
 | 0, _, _, _ => none
 | n + 1, σ, v1, v2 => (getI σ 200 30 fun x6 =>
getI σ 200 29 fun x7 =>
if x7 ≤ x6 then
 (k89 σ v1)
else
 (getI σ 200 30 fun x10 =>
rdI σ 226 160 x10 fun x11 =>
bnd (f_X6_isDigit σ x11) fun x12 =>
if x12 = 0 then
 (k89 σ v1)
else
 (if v2 = (4 : Int32) then
 (k50 σ)
else
 (getI σ 200 30 fun x16 =>
rdI σ 226 160 x16 fun x17 =>
wlet ((((10 : Int32) * v1) + x17) - (48 : Int32)) fun x18 =>
getI σ 200 30 fun x19 =>
putI σ 200 30 (x19 + (1 : Int32)) fun σ20 =>
f_X6_number_L19 k50 k89 n σ20 x18 (v2 + (1 : Int32))))))
def f_X6_number (σ : Mem) : Option Mem :=
 (bnd2 (f_X6_look σ) fun σ1 x2 =>
bnd (f_X6_isDigit σ1 x2) fun x3 =>
if x3 = 0 then
 (bnd (f_X6_bad σ1) fun σ5 =>
some σ5)
else
 (f_X6_number_L19 (fun σ21 => bnd (f_X6_bad σ21) fun σ22 =>
some σ22) (fun σ23 x24 => bnd (f_X6_say σ23 (0 : Int32)) fun σ25 =>
bnd (f_X6_say σ25 x24) fun σ26 =>
some σ26) FU σ1 (0 : Int32) (0 : Int32)))
def f_X6_atom_b (rec : Mem → Option Mem) (σ : Mem) : Option Mem :=
 (bnd2 (f_X6_look σ) fun σ1 x2 =>
if x2 = (91 : Int32) then
 (bnd2 (f_X6_opens σ1) fun σ4 x5 =>
if x5 = 0 then
 (some σ4)
else
 (bnd (rec σ4) fun σ7 =>
bnd (f_X6_closes σ7 (93 : Int32)) fun σ8 =>
some σ8))
else
 (bnd (f_X6_isLetter σ1 x2) fun x9 =>
if x9 = 0 then
 (bnd (f_X6_number σ1) fun σ11 =>
some σ11)
else
 (getI σ1 200 30 fun x12 =>
putI σ1 200 30 (x12 + (1 : Int32)) fun σ13 =>
bnd (f_X6_say σ13 (1 : Int32)) fun σ14 =>
bnd (f_X6_say σ14 x2) fun σ15 =>
some σ15)))
def f_X6_term_b_L9 (rec : Mem → Option Mem) (k56 : Mem → Option Mem) : Nat → Mem → Int32 → Option Mem
 | 0, _, _ => none
 | n + 1, σ, v1 => (getI σ 200 31 fun x4 =>
if x4 = (-1 : Int32) then
 (if v1 = (42 : Int32) then
 (getI σ 200 30 fun x7 =>
putI σ 200 30 (x7 + (1 : Int32)) fun σ8 =>
bnd (f_X6_atom_b rec σ8) fun σ9 =>
bnd (f_X6_say σ9 v1) fun σ10 =>
bnd2 (f_X6_look σ10) fun σ11 x12 =>
f_X6_term_b_L9 rec k56 n σ11 x12)
else
 (if v1 = (47 : Int32) then
 (getI σ 200 30 fun x14 =>
putI σ 200 30 (x14 + (1 : Int32)) fun σ15 =>
bnd (f_X6_atom_b rec σ15) fun σ16 =>
bnd (f_X6_say σ16 v1) fun σ17 =>
bnd2 (f_X6_look σ17) fun σ18 x19 =>
f_X6_term_b_L9 rec k56 n σ18 x19)
else
 (k56 σ)))
else
 (k56 σ))
def f_X6_term_b (rec : Mem → Option Mem) (σ : Mem) : Option Mem :=
 (bnd (f_X6_atom_b rec σ) fun σ1 =>
bnd2 (f_X6_look σ1) fun σ2 x3 =>
f_X6_term_b_L9 rec (fun σ20 => some σ20) FU σ2 x3)
def f_X6_sum_b_L9 (rec : Mem → Option Mem) (k56 : Mem → Option Mem) : Nat → Mem → Int32 → Option Mem
 | 0, _, _ => none
 | n + 1, σ, v1 => (getI σ 200 31 fun x4 =>
if x4 = (-1 : Int32) then
 (if v1 = (43 : Int32) then
 (getI σ 200 30 fun x7 =>
putI σ 200 30 (x7 + (1 : Int32)) fun σ8 =>
bnd (f_X6_term_b rec σ8) fun σ9 =>
bnd (f_X6_say σ9 v1) fun σ10 =>
bnd2 (f_X6_look σ10) fun σ11 x12 =>
f_X6_sum_b_L9 rec k56 n σ11 x12)
else
 (if v1 = (45 : Int32) then
 (getI σ 200 30 fun x14 =>
putI σ 200 30 (x14 + (1 : Int32)) fun σ15 =>
bnd (f_X6_term_b rec σ15) fun σ16 =>
bnd (f_X6_say σ16 v1) fun σ17 =>
bnd2 (f_X6_look σ17) fun σ18 x19 =>
f_X6_sum_b_L9 rec k56 n σ18 x19)
else
 (k56 σ)))
else
 (k56 σ))
def f_X6_sum_b (rec : Mem → Option Mem) (σ : Mem) : Option Mem :=
 (bnd (f_X6_term_b rec σ) fun σ1 =>
bnd2 (f_X6_look σ1) fun σ2 x3 =>
f_X6_sum_b_L9 rec (fun σ20 => some σ20) FU σ2 x3)
def f_X6_sum : Nat → Mem → Option Mem
 | 0, _ => none
 | d + 1, σ => f_X6_sum_b (f_X6_sum d) σ
def f_X6_compare (σ : Mem) : Option Mem :=
 (getI σ 200 31 fun x1 =>
bnd2 (if x1 = (-1 : Int32) then
 (bnd2 (f_X6_look σ) fun σ13 x14 =>
some (σ13, x14))
else
 (some (σ, (-1 : Int32)))) fun σ3 x4 =>
bnd (f_X6_isSign σ3 x4) fun x6 =>
if x6 = 0 then
 (bnd (f_X6_bad σ3) fun σ8 =>
some σ8)
else
 (getI σ3 200 30 fun x9 =>
putI σ3 200 30 (x9 + (1 : Int32)) fun σ10 =>
bnd (f_X6_sum 8 σ10) fun σ11 =>
bnd (f_X6_say σ11 x4) fun σ12 =>
some σ12))
def f_X6_part_b_L15 (rec : Mem → Option Mem) (k55 : Mem → Option Mem) : Nat → Mem → Option Mem
 | 0, _ => none
 | n + 1, σ => (getI σ 200 31 fun x4 =>
if x4 = (-1 : Int32) then
 (bnd2 (f_X6_look σ) fun σ6 x7 =>
if x7 = (38 : Int32) then
 (getI σ6 200 30 fun x9 =>
putI σ6 200 30 (x9 + (1 : Int32)) fun σ10 =>
bnd (rec σ10) fun σ11 =>
bnd (f_X6_say σ11 (38 : Int32)) fun σ12 =>
f_X6_part_b_L15 rec k55 n σ12)
else
 (k55 σ6))
else
 (k55 σ))
def f_X6_part_b (rec : Mem → Option Mem) (σ : Mem) (a1 : Int32) : Option Mem :=
 (bnd (if a1 = 0 then
 (bnd (rec σ) fun σ14 =>
some σ14)
else
 (bnd (f_X6_compare σ) fun σ15 =>
some σ15)) fun σ2 =>
f_X6_part_b_L15 rec (fun σ13 => some σ13) FU σ2)
def f_X6_condition_b_L5 (rec : Mem → Option Mem) (k46 : Mem → Option Mem) : Nat → Mem → Option Mem
 | 0, _ => none
 | n + 1, σ => (getI σ 200 31 fun x2 =>
if x2 = (-1 : Int32) then
 (bnd2 (f_X6_look σ) fun σ4 x5 =>
if x5 = (124 : Int32) then
 (getI σ4 200 30 fun x7 =>
putI σ4 200 30 (x7 + (1 : Int32)) fun σ8 =>
bnd (f_X6_part_b rec σ8 (0 : Int32)) fun σ9 =>
bnd (f_X6_say σ9 (124 : Int32)) fun σ10 =>
f_X6_condition_b_L5 rec k46 n σ10)
else
 (k46 σ4))
else
 (k46 σ))
def f_X6_condition_b (rec : Mem → Option Mem) (σ : Mem) (a1 : Int32) : Option Mem :=
 (bnd (f_X6_part_b rec σ a1) fun σ1 =>
f_X6_condition_b_L5 rec (fun σ11 => some σ11) FU σ1)
def f_X6_unit_b (rec : Mem → Option Mem) (σ : Mem) : Option Mem :=
 (bnd2 (f_X6_look σ) fun σ1 x2 =>
if x2 = (33 : Int32) then
 (bnd2 (f_X6_opens σ1) fun σ4 x5 =>
if x5 = 0 then
 (some σ4)
else
 (bnd (rec σ4) fun σ7 =>
getI σ7 200 32 fun x8 =>
putI σ7 200 32 (x8 - (1 : Int32)) fun σ9 =>
bnd (f_X6_say σ9 (33 : Int32)) fun σ10 =>
some σ10))
else
 (if x2 = (40 : Int32) then
 (bnd2 (f_X6_opens σ1) fun σ12 x13 =>
if x13 = 0 then
 (some σ12)
else
 (bnd (f_X6_condition_b rec σ12 (0 : Int32)) fun σ15 =>
bnd (f_X6_closes σ15 (41 : Int32)) fun σ16 =>
some σ16))
else
 (bnd (f_X6_sum 8 σ1) fun σ17 =>
bnd (f_X6_compare σ17) fun σ18 =>
some σ18)))
def f_X6_unit : Nat → Mem → Option Mem
 | 0, _ => none
 | d + 1, σ => f_X6_unit_b (f_X6_unit d) σ
def f_X6_clause_L120 (k149 : Mem → Option Mem) (u4 : Int32) : Nat → Mem → Int32 → Option Mem
 | 0, _, _ => none
 | n + 1, σ, v5 => (if v5 < u4 then
 (k149 σ)
else
 (rdI σ 227 420 v5 fun x49 =>
wrI σ 227 420 (v5 + (3 : Int32)) x49 fun σ50 =>
f_X6_clause_L120 k149 u4 n σ50 (v5 + (-1 : Int32))))
def f_X6_clause (σ : Mem) : Option Mem :=
 (bnd2 (f_X6_look σ) fun σ1 x2 =>
bnd (f_X6_isLabel σ1 x2) fun x3 =>
if x3 = 0 then
 (bnd (f_X6_bad σ1) fun σ5 =>
some σ5)
else
 (getI σ1 200 30 fun x6 =>
putI σ1 200 30 (x6 + (1 : Int32)) fun σ7 =>
bnd2 (f_X6_look σ7) fun σ8 x9 =>
if x9 = (58 : Int32) then
 (getI σ8 200 30 fun x11 =>
putI σ8 200 30 (x11 + (1 : Int32)) fun σ12 =>
bnd (f_X6_say σ12 x2) fun σ13 =>
bnd2 (f_X6_look σ13) fun σ14 x15 =>
bnd (if x15 = (33 : Int32) then
 (some (0 : Int32))
else
 (if x15 = (40 : Int32) then
 (some (0 : Int32))
else
 (some (1 : Int32)))) fun x17 =>
getI σ14 200 33 fun x19 =>
if x17 = 0 then
 (bnd (f_X6_condition_b (f_X6_unit 8) σ14 x17) fun σ21 =>
getI σ21 200 31 fun x22 =>
bnd (if x22 = (-1 : Int32) then
 (bnd2 (f_X6_look σ21) fun σ33 x34 =>
if x34 = (63 : Int32) then
 (some σ33)
else
 (bnd (f_X6_bad σ33) fun σ36 =>
some σ36))
else
 (some σ21)) fun σ24 =>
getI σ24 200 31 fun x26 =>
if x26 = (-1 : Int32) then
 (getI σ24 200 30 fun x28 =>
putI σ24 200 30 (x28 + (1 : Int32)) fun σ29 =>
bnd (f_X6_say σ29 (2 : Int32)) fun σ30 =>
bnd (f_X6_sum 8 σ30) fun σ31 =>
bnd (f_X6_say σ31 (3 : Int32)) fun σ32 =>
some σ32)
else
 (some σ24))
else
 (bnd (f_X6_sum 8 σ14) fun σ37 =>
getI σ37 200 31 fun x38 =>
if x38 = (-1 : Int32) then
 (bnd2 (f_X6_look σ37) fun σ40 x41 =>
bnd (f_X6_isSign σ40 x41) fun x42 =>
if x42 = 0 then
 (getI σ40 200 33 fun x44 =>
wlet (x44 - (1 : Int32)) fun x45 =>
f_X6_clause_L120 (fun σ51 => wrI σ51 227 420 x19 (0 : Int32) fun σ53 =>
wrI σ53 227 420 (x19 + (1 : Int32)) (1 : Int32) fun σ55 =>
wrI σ55 227 420 (x19 + (2 : Int32)) (2 : Int32) fun σ57 =>
getI σ57 200 33 fun x58 =>
putI σ57 200 33 (x58 + (3 : Int32)) fun σ59 =>
bnd (f_X6_say σ59 (3 : Int32)) fun σ60 =>
some σ60) x19 FU σ40 x45)
else
 (bnd (f_X6_condition_b (f_X6_unit 8) σ40 x17) fun σ61 =>
getI σ61 200 31 fun x62 =>
bnd (if x62 = (-1 : Int32) then
 (bnd2 (f_X6_look σ61) fun σ73 x74 =>
if x74 = (63 : Int32) then
 (some σ73)
else
 (bnd (f_X6_bad σ73) fun σ76 =>
some σ76))
else
 (some σ61)) fun σ64 =>
getI σ64 200 31 fun x66 =>
if x66 = (-1 : Int32) then
 (getI σ64 200 30 fun x68 =>
putI σ64 200 30 (x68 + (1 : Int32)) fun σ69 =>
bnd (f_X6_say σ69 (2 : Int32)) fun σ70 =>
bnd (f_X6_sum 8 σ70) fun σ71 =>
bnd (f_X6_say σ71 (3 : Int32)) fun σ72 =>
some σ72)
else
 (some σ64)))
else
 (some σ37)))
else
 (bnd (f_X6_bad σ8) fun σ78 =>
some σ78)))
def f_X6_fault_L24 (k58 : Mem → Option (Mem × Int32)) : Nat → Mem → Option (Mem × Int32)
 | 0, _ => none
 | n + 1, σ => (getI σ 200 31 fun x6 =>
if x6 = (-1 : Int32) then
 (bnd2 (f_X6_look σ) fun σ8 x9 =>
if x9 = (59 : Int32) then
 (getI σ8 200 30 fun x11 =>
putI σ8 200 30 (x11 + (1 : Int32)) fun σ12 =>
bnd (f_X6_clause σ12) fun σ13 =>
f_X6_fault_L24 k58 n σ13)
else
 (k58 σ8))
else
 (k58 σ))
def f_X6_fault (σ : Mem) : Option (Mem × Int32) :=
 (putI σ 200 30 (0 : Int32) fun σ1 =>
putI σ1 200 31 (-1 : Int32) fun σ2 =>
putI σ2 200 32 (0 : Int32) fun σ3 =>
putI σ3 200 33 (0 : Int32) fun σ4 =>
bnd (f_X6_clause σ4) fun σ5 =>
f_X6_fault_L24 (fun σ14 => getI σ14 200 31 fun x15 =>
if x15 = (-1 : Int32) then
 (bnd2 (f_X6_look σ14) fun σ17 x18 =>
if x18 = (-1 : Int32) then
 (getI σ17 200 31 fun x20 =>
some (σ17, x20))
else
 (bnd (f_X6_bad σ17) fun σ21 =>
getI σ21 200 31 fun x22 =>
some (σ21, x22)))
else
 (getI σ14 200 31 fun x23 =>
some (σ14, x23))) FU σ5)
def f_X6_rules_L21 (k56 : Mem → Option (Mem × Int32)) : Nat → Mem → Int32 → Option (Mem × Int32)
 | 0, _, _ => none
 | n + 1, σ, v1 => (getI σ 200 33 fun x6 =>
if x6 ≤ v1 then
 (k56 σ)
else
 (getI σ 200 34 fun x9 =>
rdI σ 227 420 v1 fun x11 =>
wrI σ 228 5040 (((420 : Int32) * x9) + v1) x11 fun σ12 =>
f_X6_rules_L21 k56 n σ12 (v1 + (1 : Int32))))
def f_X6_rules (σ : Mem) : Option (Mem × Int32) :=
 (getI σ 200 34 fun x1 =>
if x1 = (12 : Int32) then
 (some (σ, (-1 : Int32)))
else
 (bnd2 (f_X6_fault σ) fun σ3 x4 =>
if x4 = (-1 : Int32) then
 (f_X6_rules_L21 (fun σ13 => getI σ13 200 34 fun x15 =>
getI σ13 200 33 fun x16 =>
wrI σ13 229 12 x15 x16 fun σ17 =>
putI σ17 200 29 (0 : Int32) fun σ18 =>
getI σ18 200 34 fun x19 =>
putI σ18 200 34 (x19 + (1 : Int32)) fun σ20 =>
getI σ20 200 34 fun x21 =>
some (σ20, (x21 - (1 : Int32)))) FU σ3 (0 : Int32))
else
 (some (σ3, (-1 : Int32)))))
def f_X6_rule (σ : Mem) (a1 : Int32) (a2 : Int32) : Option (Mem × Int32) :=
 (bnd (f_X6_isFilter σ a1) fun x1 =>
if x1 = 0 then
 (retZm σ (0 : Int32))
else
 (getI σ 200 34 fun x3 =>
bnd (f_X6_in σ a2 (-1 : Int32) (x3 - (1 : Int32))) fun x4 =>
if x4 = 0 then
 (retZm σ (0 : Int32))
else
 (wrI σ 219 9 a1 a2 fun σ7 =>
retZm σ7 (1 : Int32))))
def f_X6_bounded (σ : Mem) (a1 : Int64) : Option Int32 :=
 (some ((lmax (-1000000 : Int64) (lmin (1000000 : Int64) a1))).toInt32)
def f_X6_both (σ : Mem) (a1 : Int32) (a2 : Int32) (a3 : Int32) : Option Int32 :=
 (if a1 = (38 : Int32) then
 (if a2 = 0 then
 (some (0 : Int32))
else
 (if a3 = 0 then
 (some (0 : Int32))
else
 (some (1 : Int32))))
else if a1 = (42 : Int32) then
 (bnd (f_X6_bounded σ ((a2).toInt64 * (a3).toInt64)) fun x4 =>
some x4)
else if a1 = (43 : Int32) then
 (bnd (f_X6_bounded σ ((a2).toInt64 + (a3).toInt64)) fun x5 =>
some x5)
else if a1 = (45 : Int32) then
 (bnd (f_X6_bounded σ ((a2).toInt64 - (a3).toInt64)) fun x6 =>
some x6)
else if a1 = (47 : Int32) then
 (if a3 = 0 then
 (some (0 : Int32))
else
 (divL (a3).toInt64 <|
bnd (f_X6_bounded σ ((a2).toInt64 / (a3).toInt64)) fun x8 =>
some x8))
else if a1 = (60 : Int32) then
 (if a3 ≤ a2 then
 (some (0 : Int32))
else
 (some (1 : Int32)))
else if a1 = (61 : Int32) then
 (if a2 = a3 then
 (some (1 : Int32))
else
 (some (0 : Int32)))
else if a1 = (62 : Int32) then
 (if a2 ≤ a3 then
 (some (0 : Int32))
else
 (some (1 : Int32)))
else 
 (if a2 = 0 then
 (if a3 = 0 then
 (some (0 : Int32))
else
 (some (1 : Int32)))
else
 (some (1 : Int32))))
def f_X6_work_L2 (k174 : Mem → Option (Mem × Int32)) : Nat → Mem → Int32 → Option (Mem × Int32)
 | 0, _, _ => none
 | n + 1, σ, v1 => (getI σ 200 37 fun x2 =>
rdI σ 228 5040 x2 fun x3 =>
if x3 = (2 : Int32) then
 (k174 σ)
else
 (getI σ 200 37 fun x6 =>
rdI σ 228 5040 x6 fun x7 =>
if x7 = (3 : Int32) then
 (k174 σ)
else
 (getI σ 200 37 fun x10 =>
rdI σ 228 5040 x10 fun x11 =>
getI σ 200 37 fun x12 =>
putI σ 200 37 (x12 + (1 : Int32)) fun σ13 =>
if x11 = 0 then
 (bnd (if x11 = 0 then
 (getI σ13 200 37 fun x23 =>
rdI σ13 228 5040 x23 fun x24 =>
some x24)
else
 (getI σ13 200 37 fun x27 =>
rdI σ13 228 5040 x27 fun x28 =>
rdI σ13 236 128 x28 fun x29 =>
some x29)) fun x17 =>
wrI σ13 237 200 v1 x17 fun σ19 =>
getI σ19 200 37 fun x20 =>
putI σ19 200 37 (x20 + (1 : Int32)) fun σ21 =>
f_X6_work_L2 k174 n σ21 (v1 + (1 : Int32)))
else
 (if x11 = (1 : Int32) then
 (bnd (if x11 = 0 then
 (getI σ13 200 37 fun x39 =>
rdI σ13 228 5040 x39 fun x40 =>
some x40)
else
 (getI σ13 200 37 fun x43 =>
rdI σ13 228 5040 x43 fun x44 =>
rdI σ13 236 128 x44 fun x45 =>
some x45)) fun x33 =>
wrI σ13 237 200 v1 x33 fun σ35 =>
getI σ35 200 37 fun x36 =>
putI σ35 200 37 (x36 + (1 : Int32)) fun σ37 =>
f_X6_work_L2 k174 n σ37 (v1 + (1 : Int32)))
else
 (if x11 = (33 : Int32) then
 (rdI σ13 237 200 (v1 - (1 : Int32)) fun x49 =>
if x49 = 0 then
 (wrI σ13 237 200 (v1 - (1 : Int32)) (1 : Int32) fun σ51 =>
f_X6_work_L2 k174 n σ51 v1)
else
 (wrI σ13 237 200 (v1 - (1 : Int32)) (0 : Int32) fun σ52 =>
f_X6_work_L2 k174 n σ52 v1))
else
 (rdI σ13 237 200 ((v1 + (-1 : Int32)) - (1 : Int32)) fun x55 =>
rdI σ13 237 200 (v1 + (-1 : Int32)) fun x57 =>
bnd (f_X6_both σ13 x11 x55 x57) fun x58 =>
wrI σ13 237 200 ((v1 + (-1 : Int32)) - (1 : Int32)) x58 fun σ59 =>
f_X6_work_L2 k174 n σ59 (v1 + (-1 : Int32))))))))
def f_X6_work (σ : Mem) : Option (Mem × Int32) :=
 (f_X6_work_L2 (fun σ60 => getI σ60 200 37 fun x61 =>
putI σ60 200 37 (x61 + (1 : Int32)) fun σ62 =>
rdI σ62 237 200 (0 : Int32) fun x64 =>
some (σ62, x64)) FU σ (0 : Int32))
def f_X6_worthBy_L9 (k86 : Mem → Int32 → Option (Mem × Int32)) (k92 : Mem → Option (Mem × Int32)) (u1 : Int32) (u2 : Int32) : Nat → Mem → Option (Mem × Int32)
 | 0, _ => none
 | n + 1, σ => (getI σ 200 37 fun x2 =>
rdI σ 229 12 u1 fun x4 =>
if (((420 : Int32) * u1) + x4) ≤ x2 then
 (k92 σ)
else
 (getI σ 200 37 fun x7 =>
rdI σ 228 5040 x7 fun x8 =>
bnd (if x8 = u2 then
 (some (1 : Int32))
else
 (some (0 : Int32))) fun x10 =>
getI σ 200 37 fun x12 =>
putI σ 200 37 (x12 + (1 : Int32)) fun σ13 =>
bnd2 (f_X6_work σ13) fun σ14 x15 =>
bnd (if x15 = 0 then
 (some (0 : Int32))
else
 (some (1 : Int32))) fun x17 =>
bnd2 (f_X6_work σ14) fun σ19 x20 =>
if x10 = 0 then
 (f_X6_worthBy_L9 k86 k92 u1 u2 n σ19)
else
 (if x17 = 0 then
 (f_X6_worthBy_L9 k86 k92 u1 u2 n σ19)
else
 (k86 σ19 x20))))
def f_X6_worthBy (σ : Mem) (a1 : Int32) (a2 : Int32) : Option (Mem × Int32) :=
 (putI σ 200 37 ((420 : Int32) * a1) fun σ1 =>
f_X6_worthBy_L9 (fun σ23 x24 => some (σ23, x24)) (fun σ25 => some (σ25, (0 : Int32))) a1 a2 FU σ1)
def f_X6_worth (σ : Mem) (a1 : Int32) (a2 : Int32) (a3 : Int32) (a4 : Int32) (a5 : Int32) (a6 : Int32) (a7 : Int32) (a8 : Int32) : Option (Mem × Int32) :=
 (getI σ 200 34 fun x1 =>
bnd (f_X6_in σ a1 (0 : Int32) (x1 - (1 : Int32))) fun x2 =>
bnd (if x2 = 0 then
 (some (1 : Int32))
else
 (bnd (f_X6_isLabel σ a2) fun x23 =>
if x23 = 0 then
 (some (1 : Int32))
else
 (some (0 : Int32)))) fun x4 =>
putI σ 200 1 x4 fun σ6 =>
getI σ6 200 1 fun x7 =>
if x7 = (1 : Int32) then
 (some (σ6, (0 : Int32)))
else
 (wrI σ6 236 128 (112 : Int32) a3 fun σ10 =>
wrI σ10 236 128 (104 : Int32) a4 fun σ12 =>
wrI σ12 236 128 (111 : Int32) a5 fun σ14 =>
wrI σ14 236 128 (105 : Int32) a6 fun σ16 =>
wrI σ16 236 128 (110 : Int32) a7 fun σ18 =>
wrI σ18 236 128 (107 : Int32) a8 fun σ20 =>
bnd2 (f_X6_worthBy σ20 a1 a2) fun σ21 x22 =>
some (σ21, x22)))
def f_X6_stream (σ : Mem) (a1 : Int32) : Option (Mem × Int32) :=
 (bnd (f_X6_in σ a1 (1 : Int32) (1000 : Int32)) fun x1 =>
if x1 = 0 then
 (retZm σ (0 : Int32))
else
 (putI σ 200 48 a1 fun σ3 =>
retZm σ3 (1 : Int32)))
def f_X6_come (σ : Mem) (a1 : Int32) (a2 : Int32) : Option (Mem × Int32) :=
 (bnd (f_X6_in σ a1 (0 : Int32) (7 : Int32)) fun x1 =>
if x1 = 0 then
 (retZm σ (0 : Int32))
else
 (bnd (f_X6_in σ a2 (0 : Int32) (9999 : Int32)) fun x3 =>
if x3 = 0 then
 (retZm σ (0 : Int32))
else
 (wrI σ 239 8 a1 a2 fun σ6 =>
retZm σ6 (1 : Int32))))
def f_X6_change_L35 (k92 : Mem → Int32 → Option Mem) (u1 : Int32) (u2 : Int32) : Nat → Mem → Int32 → Int32 → Option Mem
 | 0, _, _, _ => none
 | n + 1, σ, v3, v4 => (rdI σ 206 9 u1 fun x7 =>
if x7 ≤ v4 then
 (k92 σ v3)
else
 (wlet (((8 : Int32) * (((10 : Int32) * u1) + v4)) + u2) fun x9 =>
rdI σ 210 720 x9 fun x11 =>
wlet (v3 + x11) fun x12 =>
wrI σ 210 720 x9 (0 : Int32) fun σ14 =>
wrI σ14 211 720 x9 (0 : Int32) fun σ16 =>
f_X6_change_L35 k92 u1 u2 n σ16 x12 (v4 + (1 : Int32))))
def f_X6_change_L2 (k113 : Mem → Option Mem) (u1 : Int32) : Nat → Mem → Int32 → Option Mem
 | 0, _, _ => none
 | n + 1, σ, v2 => (if (8 : Int32) ≤ v2 then
 (k113 σ)
else
 (rdI σ 212 72 (((8 : Int32) * u1) + v2) fun x3 =>
wrI σ 212 72 (((8 : Int32) * u1) + v2) (0 : Int32) fun σ5 =>
f_X6_change_L35 (fun σ17 x18 => rdI σ17 243 48 (((6 : Int32) * v2) + (3 : Int32)) fun x20 =>
wrI σ17 243 48 (((6 : Int32) * v2) + (3 : Int32)) (x20 + x18) fun σ21 =>
f_X6_change_L2 k113 u1 n σ21 (v2 + (1 : Int32))) u1 v2 FU σ5 x3 (0 : Int32)))
def f_X6_change_L115 (k153 : Mem → Option Mem) (u1 : Int32) : Nat → Mem → Int32 → Option Mem
 | 0, _, _ => none
 | n + 1, σ, v2 => (rdI σ 206 9 u1 fun x24 =>
if x24 ≤ v2 then
 (k153 σ)
else
 (rdI σ 208 90 (((10 : Int32) * u1) + v2) fun x28 =>
wrI σ 207 90 (((10 : Int32) * u1) + v2) x28 fun σ29 =>
f_X6_change_L115 k153 u1 n σ29 (v2 + (1 : Int32))))
def f_X6_change (σ : Mem) (a1 : Int32) : Option Mem :=
 (f_X6_change_L2 (fun σ22 => f_X6_change_L115 (fun σ30 => wrI σ30 217 9 a1 (0 : Int32) fun σ32 =>
wrI σ32 218 9 a1 (0 : Int32) fun σ34 =>
some σ34) a1 FU σ22 (0 : Int32)) a1 FU σ (0 : Int32))
def f_X6_decide (σ : Mem) (a1 : Int32) : Option Mem :=
 (wrI σ 216 9 a1 (1 : Int32) fun σ2 =>
rdI σ2 219 9 a1 fun x4 =>
bnd (if x4 = (-1 : Int32) then
 (some σ2)
else
 (rdI σ2 223 9 a1 fun x20 =>
bnd (if x20 = 0 then
 (some (0 : Int32))
else
 (rdI σ2 221 9 a1 fun x81 =>
some x81)) fun x22 =>
wrI σ2 236 128 (112 : Int32) x22 fun σ24 =>
rdI σ24 217 9 a1 fun x27 =>
wrI σ24 236 128 (104 : Int32) x27 fun σ28 =>
rdI σ28 223 9 a1 fun x31 =>
bnd (if x31 = 0 then
 (some (0 : Int32))
else
 (rdI σ28 222 9 a1 fun x79 =>
some x79)) fun x33 =>
wrI σ28 236 128 (111 : Int32) x33 fun σ35 =>
wrI σ35 236 128 (105 : Int32) a1 fun σ37 =>
rdI σ37 218 9 a1 fun x40 =>
wrI σ37 236 128 (110 : Int32) x40 fun σ41 =>
bnd (f_X6_cakeOf σ41 a1) fun x43 =>
wrI σ41 236 128 (107 : Int32) x43 fun σ44 =>
rdI σ44 219 9 a1 fun x46 =>
bnd2 (f_X6_worthBy σ44 x46 (99 : Int32)) fun σ47 x48 =>
if x48 = 0 then
 (rdI σ47 219 9 a1 fun x51 =>
bnd2 (f_X6_worthBy σ47 x51 (119 : Int32)) fun σ52 x53 =>
if x53 = 0 then
 (rdI σ52 219 9 a1 fun x56 =>
bnd2 (f_X6_worthBy σ52 x56 (114 : Int32)) fun σ57 x58 =>
if x58 = 0 then
 (some σ57)
else
 (wrI σ57 216 9 a1 (3 : Int32) fun σ61 =>
some σ61))
else
 (rdI σ52 219 9 a1 fun x64 =>
bnd2 (f_X6_worthBy σ52 x64 (117 : Int32)) fun σ65 x66 =>
wrI σ65 246 8 a1 (imax (0 : Int32) (imin (1000 : Int32) x66)) fun σ67 =>
rdI σ67 218 9 a1 fun x70 =>
rdI σ67 215 9 a1 fun x72 =>
bnd (if x70 < x72 then
 (some (2 : Int32))
else
 (some (5 : Int32))) fun x74 =>
wrI σ67 216 9 a1 x74 fun σ76 =>
some σ76))
else
 (bnd (f_X6_change σ47 a1) fun σ77 =>
some σ77))) fun σ6 =>
rdI σ6 224 9 a1 fun x10 =>
if x10 = 0 then
 (rdI σ6 216 9 a1 fun x13 =>
if x13 = (1 : Int32) then
 (wrZ σ6 224 9 a1 (1 : Int32) fun σ15 =>
some σ15)
else
 (wrZ σ6 224 9 a1 (0 : Int32) fun σ16 =>
some σ16))
else
 (wrZ σ6 224 9 a1 (1 : Int32) fun σ17 =>
some σ17))
def f_X6_washOne_L35 (k163 : Mem → Int32 → Option Mem) (u1 : Int32) (u2 : Int32) : Nat → Mem → Int32 → Int32 → Option Mem
 | 0, _, _, _ => none
 | n + 1, σ, v3, v4 => (rdI σ 206 9 u1 fun x7 =>
if x7 ≤ v4 then
 (k163 σ v3)
else
 (wlet (((8 : Int32) * (((10 : Int32) * u1) + v4)) + u2) fun x9 =>
rdI σ 210 720 x9 fun x11 =>
rdI σ 211 720 x9 fun x13 =>
wlet ((x11 - x13)).toInt64 fun y14 =>
rdI σ 205 8 u2 fun x16 =>
divL (1000 : Int64) <|
wlet (((y14 * (x16).toInt64) / (1000 : Int64))).toInt32 fun x17 =>
rdI σ 204 8 u2 fun x19 =>
divL (1000 : Int64) <|
rdI σ 246 8 u1 fun x21 =>
divL (1000 : Int64) <|
wlet ((((((y14 - (x17).toInt64) * (x19).toInt64) / (1000 : Int64)) * (x21).toInt64) / (1000 : Int64))).toInt32 fun x22 =>
rdI σ 211 720 x9 fun x24 =>
wrI σ 211 720 x9 (x24 + x17) fun σ25 =>
rdI σ25 210 720 x9 fun x27 =>
wrI σ25 210 720 x9 (x27 - x22) fun σ28 =>
wlet (v3 + x22) fun x29 =>
f_X6_washOne_L35 k163 u1 u2 n σ28 x29 (v4 + (1 : Int32))))
def f_X6_washOne_L2 (k184 : Mem → Option Mem) (u1 : Int32) : Nat → Mem → Int32 → Option Mem
 | 0, _, _ => none
 | n + 1, σ, v2 => (if (8 : Int32) ≤ v2 then
 (k184 σ)
else
 (rdI σ 212 72 (((8 : Int32) * u1) + v2) fun x3 =>
wrI σ 212 72 (((8 : Int32) * u1) + v2) (0 : Int32) fun σ5 =>
f_X6_washOne_L35 (fun σ30 x31 => rdI σ30 243 48 (((6 : Int32) * v2) + (2 : Int32)) fun x33 =>
wrI σ30 243 48 (((6 : Int32) * v2) + (2 : Int32)) (x33 + x31) fun σ34 =>
f_X6_washOne_L2 k184 u1 n σ34 (v2 + (1 : Int32))) u1 v2 FU σ5 x3 (0 : Int32)))
def f_X6_washOne_L186 (k246 : Mem → Option Mem) (u1 : Int32) : Nat → Mem → Int32 → Option Mem
 | 0, _, _ => none
 | n + 1, σ, v2 => (rdI σ 206 9 u1 fun x37 =>
if x37 ≤ v2 then
 (k246 σ)
else
 (rdI σ 246 8 u1 fun x40 =>
rdI σ 214 9 u1 fun x42 =>
if x40 ≤ x42 then
 (k246 σ)
else
 (rdI σ 207 90 (((10 : Int32) * u1) + v2) fun x46 =>
wrI σ 207 90 (((10 : Int32) * u1) + v2) (imin (20 : Int32) (x46 + (1 : Int32))) fun σ47 =>
f_X6_washOne_L186 k246 u1 n σ47 (v2 + (1 : Int32)))))
def f_X6_washOne (σ : Mem) (a1 : Int32) : Option Mem :=
 (f_X6_washOne_L2 (fun σ35 => f_X6_washOne_L186 (fun σ48 => wrI σ48 217 9 a1 (0 : Int32) fun σ50 =>
rdI σ50 218 9 a1 fun x52 =>
wrI σ50 218 9 a1 (x52 + (1 : Int32)) fun σ53 =>
some σ53) a1 FU σ35 (0 : Int32)) a1 FU σ (0 : Int32))
def f_X6_weightOf (σ : Mem) (a1 : Int32) : Option Int32 :=
 (bnd (f_X6_bed σ a1) fun x1 =>
if x1 = (-1 : Int32) then
 (some (0 : Int32))
else
 (bnd (f_X6_cakeOf σ a1) fun x3 =>
divI (imax (1 : Int32) (x1 + x3)) <|
some ((1000000 : Int32) / (imax (1 : Int32) (x1 + x3)))))
def f_X6_look_2_L2 (k30 : Mem → Option Mem) (u1 : Int32) : Nat → Mem → Int32 → Option Mem
 | 0, _, _ => none
 | n + 1, σ, v2 => (rdI σ 206 9 u1 fun x2 =>
if x2 ≤ v2 then
 (k30 σ)
else
 (bnd (f_X6_width σ u1 v2) fun x5 =>
wrI σ 247 10 v2 x5 fun σ6 =>
f_X6_look_2_L2 k30 u1 n σ6 (v2 + (1 : Int32))))
def f_X6_look_2 (σ : Mem) (a1 : Int32) : Option Mem :=
 (f_X6_look_2_L2 (fun σ7 => some σ7) a1 FU σ (0 : Int32))
def f_X6_tell (σ : Mem) (a1 : Int32) (a2 : Int32) (a3 : Int32) : Option Mem :=
 (getI σ 200 0 fun x2 =>
rdI σ 240 48024 (((3 : Int32) * (((8 : Int32) * x2) + a1)) + a2) fun x3 =>
wrI σ 240 48024 (((3 : Int32) * (((8 : Int32) * x2) + a1)) + a2) (x3 + a3) fun σ4 =>
bnd (if a2 = 0 then
 (some (0 : Int32))
else
 (some (a2 + (3 : Int32)))) fun x7 =>
rdI σ4 243 48 (((6 : Int32) * a1) + x7) fun x9 =>
wrI σ4 243 48 (((6 : Int32) * a1) + x7) (x9 + a3) fun σ10 =>
some σ10)
def f_X6_partOf_L37 (k106 : Int32 → Int32 → Option Int32) (σ : Mem) (u1 : Int32) (u2 : Int32) (u3 : Int32) : Nat → Int32 → Int32 → Int32 → Option Int32
 | 0, _, _, _ => none
 | n + 1, v4, v5, v6 => (getI σ 200 24 fun x9 =>
if x9 ≤ v6 then
 (k106 v4 v5)
else
 (rdI σ 239 8 u2 fun x12 =>
rdI σ 220 9 v6 fun x14 =>
getI σ 200 48 fun x15 =>
divL (x15).toInt64 <|
wlet (v4 - ((((x12).toInt64 * (x14).toInt64) / (x15).toInt64)).toInt32) fun x16 =>
bnd (if u1 ≤ v6 then
 (some (0 : Int32))
else
 (rdI σ 220 9 v6 fun x22 =>
if x22 ≤ 0 then
 (some (0 : Int32))
else
 (some (1 : Int32)))) fun x18 =>
wlet (v5 + x18) fun x20 =>
f_X6_partOf_L37 k106 σ u1 u2 u3 n x16 x20 (v6 + (1 : Int32))))
def f_X6_partOf (σ : Mem) (a1 : Int32) (a2 : Int32) : Option Int32 :=
 (rdI σ 239 8 a2 fun x2 =>
rdI σ 220 9 a1 fun x4 =>
getI σ 200 48 fun x5 =>
divL (x5).toInt64 <|
wlet ((((x2).toInt64 * (x4).toInt64) / (x5).toInt64)).toInt32 fun x6 =>
rdI σ 239 8 a2 fun x8 =>
f_X6_partOf_L37 (fun x24 x25 => if x24 ≤ x25 then
 (some (x6 + (0 : Int32)))
else
 (some (x6 + (1 : Int32)))) σ a1 a2 x6 FU x8 (0 : Int32) (0 : Int32))
def f_X6_lead_L33 (k125 : Mem → Int32 → Option (Mem × Int32)) (u1 : Int32) (u2 : Int32) : Nat → Mem → Int32 → Int32 → Option (Mem × Int32)
 | 0, _, _, _ => none
 | n + 1, σ, v4, v5 => (rdI σ 206 9 u1 fun x5 =>
if x5 ≤ v5 then
 (k125 σ v4)
else
 (rdI σ 247 10 v5 fun x8 =>
bnd (if u2 < x8 then
 (rdI σ 203 8 u2 fun x18 =>
rdI σ 247 10 v5 fun x20 =>
divI (x20 - u2) <|
some (x18 / (x20 - u2)))
else
 (some (1000 : Int32))) fun x10 =>
divI (1000 : Int32) <|
wlet ((v4 * x10) / (1000 : Int32)) fun x12 =>
rdI σ 210 720 (((8 : Int32) * (((10 : Int32) * u1) + v5)) + u2) fun x14 =>
wrI σ 210 720 (((8 : Int32) * (((10 : Int32) * u1) + v5)) + u2) (x14 + x12) fun σ15 =>
wlet (v4 - x12) fun x16 =>
f_X6_lead_L33 k125 u1 u2 n σ15 x16 (v5 + (1 : Int32))))
def f_X6_lead (σ : Mem) (a1 : Int32) (a2 : Int32) (a3 : Int32) : Option (Mem × Int32) :=
 (rdI σ 247 10 (0 : Int32) fun x2 =>
if a2 < x2 then
 (f_X6_lead_L33 (fun σ21 x22 => some (σ21, x22)) a1 a2 FU σ a3 (0 : Int32))
else
 (rdI σ 212 72 (((8 : Int32) * a1) + a2) fun x24 =>
wrI σ 212 72 (((8 : Int32) * a1) + a2) (x24 + a3) fun σ25 =>
some (σ25, (0 : Int32))))
def f_X6_runOne_L10 (k83 : Mem → Int32 → Option Mem) (u1 : Int32) : Nat → Mem → Int32 → Int32 → Option Mem
 | 0, _, _, _ => none
 | n + 1, σ, v2, v3 => (if v3 < 0 then
 (k83 σ v2)
else
 (bnd (f_X6_partOf σ u1 v3) fun x3 =>
wlet (v2 + x3) fun x4 =>
rdI σ 221 9 u1 fun x6 =>
if x6 = (-1 : Int32) then
 (bnd (f_X6_tell σ v3 (2 : Int32) x3) fun σ8 =>
f_X6_runOne_L10 k83 u1 n σ8 x4 (v3 + (-1 : Int32)))
else
 (bnd2 (f_X6_lead σ u1 v3 x3) fun σ9 x10 =>
rdI σ9 222 9 u1 fun x12 =>
wrI σ9 222 9 u1 (x12 + x10) fun σ13 =>
bnd (f_X6_tell σ13 v3 (1 : Int32) x10) fun σ14 =>
f_X6_runOne_L10 k83 u1 n σ14 x4 (v3 + (-1 : Int32)))))
def f_X6_runOne (σ : Mem) (a1 : Int32) : Option Mem :=
 (bnd (f_X6_look_2 σ a1) fun σ1 =>
f_X6_runOne_L10 (fun σ15 x16 => rdI σ15 221 9 a1 fun x18 =>
if x18 = (-1 : Int32) then
 (wrZ σ15 248 8 a1 (1 : Int32) fun σ21 =>
some σ21)
else
 (if x16 ≤ 0 then
 (some σ15)
else
 (rdI σ15 241 8 a1 fun x24 =>
if x24 = (-1 : Int32) then
 (getI σ15 200 0 fun x27 =>
wrI σ15 241 8 a1 x27 fun σ28 =>
rdI σ28 222 9 a1 fun x31 =>
wrI σ28 242 8 a1 x31 fun σ32 =>
some σ32)
else
 (rdI σ15 222 9 a1 fun x34 =>
rdI σ15 242 8 a1 fun x36 =>
if x36 ≤ x34 then
 (some σ15)
else
 (getI σ15 200 0 fun x39 =>
wrI σ15 241 8 a1 x39 fun σ40 =>
rdI σ40 222 9 a1 fun x43 =>
wrI σ40 242 8 a1 x43 fun σ44 =>
some σ44))))) a1 FU σ1 (0 : Int32) (7 : Int32))
def f_X6_flow_L4 (k81 : Mem → Int64 → Option Mem) : Nat → Mem → Int64 → Int32 → Option Mem
 | 0, _, _, _ => none
 | n + 1, σ, v1, v3 => (getI σ 200 24 fun x1 =>
if x1 ≤ v3 then
 (k81 σ v1)
else
 (rdI σ 223 9 v3 fun x5 =>
bnd (if x5 = 0 then
 (some (0 : Int32))
else
 (bnd (f_X6_weightOf σ v3) fun x22 =>
some x22)) fun x7 =>
wrI σ 244 8 v3 x7 fun σ9 =>
rdI σ9 223 9 v3 fun x12 =>
bnd (if x12 = 0 then
 (some (0 : Int32))
else
 (bnd (f_X6_bed σ9 v3) fun x20 =>
if x20 = (-1 : Int32) then
 (some (1 : Int32))
else
 (some (0 : Int32)))) fun x14 =>
wrZ σ9 248 8 v3 x14 fun σ16 =>
rdI σ16 244 8 v3 fun x18 =>
wlet (v1 + (x18).toInt64) fun y19 =>
f_X6_flow_L4 k81 n σ16 y19 (v3 + (1 : Int32))))
def f_X6_flow_L89 (k148 : Mem → Int32 → Option Mem) (u1 : Int64) : Nat → Mem → Int32 → Int32 → Option Mem
 | 0, _, _, _ => none
 | n + 1, σ, v3, v4 => (getI σ 200 24 fun x26 =>
if x26 ≤ v4 then
 (k148 σ v3)
else
 (bnd (if u1 = (0 : Int64) then
 (some (0 : Int32))
else
 (getI σ 200 48 fun x36 =>
rdI σ 244 8 v4 fun x38 =>
divL u1 <|
some ((((x36).toInt64 * (x38).toInt64) / u1)).toInt32)) fun x30 =>
wrI σ 220 9 v4 x30 fun σ32 =>
rdI σ32 220 9 v4 fun x34 =>
wlet (v3 - x34) fun x35 =>
f_X6_flow_L89 k148 u1 n σ32 x35 (v4 + (1 : Int32))))
def f_X6_flow_L151 (k200 : Mem → Option Mem) (u1 : Int64) : Nat → Mem → Int32 → Int32 → Option Mem
 | 0, _, _, _ => none
 | n + 1, σ, v3, v4 => (getI σ 200 24 fun x41 =>
if x41 ≤ v4 then
 (k200 σ)
else
 (if u1 ≤ (0 : Int64) then
 (k200 σ)
else
 (rdI σ 244 8 v4 fun x45 =>
if x45 ≤ 0 then
 (f_X6_flow_L151 k200 u1 n σ v3 (v4 + (1 : Int32)))
else
 (if v3 ≤ 0 then
 (f_X6_flow_L151 k200 u1 n σ v3 (v4 + (1 : Int32)))
else
 (rdI σ 220 9 v4 fun x49 =>
wrI σ 220 9 v4 (x49 + (1 : Int32)) fun σ50 =>
f_X6_flow_L151 k200 u1 n σ50 (v3 + (-1 : Int32)) (v4 + (1 : Int32)))))))
def f_X6_flow_L203 (k254 : Mem → Option Mem) : Nat → Mem → Int32 → Option Mem
 | 0, _, _ => none
 | n + 1, σ, v4 => (getI σ 200 24 fun x52 =>
if x52 ≤ v4 then
 (k254 σ)
else
 (rdI σ 220 9 v4 fun x55 =>
if x55 ≤ 0 then
 (f_X6_flow_L203 k254 n σ (v4 + (1 : Int32)))
else
 (rdI σ 220 9 v4 fun x59 =>
bnd (f_X6_pushFor σ v4 x59) fun x60 =>
wrI σ 221 9 v4 x60 fun σ61 =>
bnd (f_X6_look_2 σ61 v4) fun σ62 =>
f_X6_flow_L203 k254 n σ62 (v4 + (1 : Int32)))))
def f_X6_flow_L260 (k310 : Mem → Int32 → Option Mem) : Nat → Mem → Int32 → Int32 → Option Mem
 | 0, _, _, _ => none
 | n + 1, σ, v4, v5 => (getI σ 200 24 fun x64 =>
if x64 ≤ v5 then
 (k310 σ v4)
else
 (wrI σ 222 9 v5 (0 : Int32) fun σ67 =>
wrI σ67 245 8 v5 (0 : Int32) fun σ69 =>
rdI σ69 220 9 v5 fun x71 =>
if x71 ≤ 0 then
 (f_X6_flow_L260 k310 n σ69 v4 (v5 + (1 : Int32)))
else
 (f_X6_flow_L260 k310 n σ69 v5 (v5 + (1 : Int32)))))
def f_X6_flow_L313 (k360 : Mem → Option Mem) (u4 : Int32) : Nat → Mem → Int32 → Option Mem
 | 0, _, _ => none
 | n + 1, σ, v5 => (if (8 : Int32) ≤ v5 then
 (k360 σ)
else
 (rdI σ 239 8 v5 fun x77 =>
bnd (f_X6_tell σ v5 (0 : Int32) x77) fun σ78 =>
if u4 = (-1 : Int32) then
 (rdI σ78 239 8 v5 fun x81 =>
bnd (f_X6_tell σ78 v5 (2 : Int32) x81) fun σ82 =>
f_X6_flow_L313 k360 u4 n σ82 (v5 + (1 : Int32)))
else
 (f_X6_flow_L313 k360 u4 n σ78 (v5 + (1 : Int32)))))
def f_X6_flow_L363 (k392 : Mem → Option Mem) (u4 : Int32) : Nat → Mem → Int32 → Option Mem
 | 0, _, _ => none
 | n + 1, σ, v5 => (if u4 < v5 then
 (k392 σ)
else
 (rdI σ 220 9 v5 fun x86 =>
if x86 ≤ 0 then
 (f_X6_flow_L363 k392 u4 n σ (v5 + (1 : Int32)))
else
 (bnd (f_X6_runOne σ v5) fun σ88 =>
f_X6_flow_L363 k392 u4 n σ88 (v5 + (1 : Int32)))))
def f_X6_flow_L395 (k456 : Mem → Option Mem) : Nat → Mem → Int32 → Option Mem
 | 0, _, _ => none
 | n + 1, σ, v5 => (getI σ 200 24 fun x90 =>
if x90 ≤ v5 then
 (k456 σ)
else
 (rdI σ 221 9 v5 fun x94 =>
wrI σ 221 9 v5 (imax (0 : Int32) x94) fun σ95 =>
rdI σ95 248 8 v5 fun x98 =>
if x98 = 0 then
 (rdI σ95 216 9 v5 fun x101 =>
wrI σ95 216 9 v5 x101 fun σ102 =>
f_X6_flow_L395 k456 n σ102 (v5 + (1 : Int32)))
else
 (wrI σ95 216 9 v5 (4 : Int32) fun σ103 =>
f_X6_flow_L395 k456 n σ103 (v5 + (1 : Int32)))))
def f_X6_flow (σ : Mem) : Option Mem :=
 (f_X6_flow_L4 (fun σ23 y24 => getI σ23 200 48 fun x25 =>
f_X6_flow_L89 (fun σ39 x40 => f_X6_flow_L151 (fun σ51 => f_X6_flow_L203 (fun σ63 => f_X6_flow_L260 (fun σ73 x74 => f_X6_flow_L313 (fun σ83 => f_X6_flow_L363 (fun σ89 => f_X6_flow_L395 (fun σ104 => some σ104) FU σ89 (0 : Int32)) x74 FU σ83 (0 : Int32)) x74 FU σ73 (0 : Int32)) FU σ63 (-1 : Int32) (0 : Int32)) FU σ51 (0 : Int32)) y24 FU σ39 x40 (0 : Int32)) y24 FU σ23 x25 (0 : Int32)) FU σ (0 : Int64) (0 : Int32))
def f_X6_hour_L12 (k60 : Mem → Option Mem) : Nat → Mem → Int32 → Option Mem
 | 0, _, _ => none
 | n + 1, σ, v1 => (getI σ 200 24 fun x3 =>
if x3 ≤ v1 then
 (k60 σ)
else
 (rdI σ 206 9 v1 fun x6 =>
if x6 ≤ 0 then
 (f_X6_hour_L12 k60 n σ (v1 + (1 : Int32)))
else
 (rdI σ 216 9 v1 fun x9 =>
if x9 = (4 : Int32) then
 (f_X6_hour_L12 k60 n σ (v1 + (1 : Int32)))
else
 (rdI σ 216 9 v1 fun x12 =>
if x12 = (5 : Int32) then
 (f_X6_hour_L12 k60 n σ (v1 + (1 : Int32)))
else
 (bnd (f_X6_decide σ v1) fun σ14 =>
f_X6_hour_L12 k60 n σ14 (v1 + (1 : Int32)))))))
def f_X6_hour_L62 (k142 : Mem → Option Mem) : Nat → Mem → Int32 → Option Mem
 | 0, _, _ => none
 | n + 1, σ, v1 => (getI σ 200 24 fun x16 =>
if x16 ≤ v1 then
 (k142 σ)
else
 (rdI σ 216 9 v1 fun x20 =>
bnd (if x20 = (1 : Int32) then
 (rdI σ 206 9 v1 fun x36 =>
if x36 ≤ 0 then
 (some (0 : Int32))
else
 (some (1 : Int32)))
else
 (some (0 : Int32))) fun x22 =>
wrZ σ 223 9 v1 x22 fun σ24 =>
wrI σ24 220 9 v1 (0 : Int32) fun σ26 =>
wrI σ26 221 9 v1 (0 : Int32) fun σ28 =>
wrI σ28 222 9 v1 (0 : Int32) fun σ30 =>
rdI σ30 216 9 v1 fun x32 =>
if x32 = (2 : Int32) then
 (bnd (f_X6_washOne σ30 v1) fun σ34 =>
f_X6_hour_L62 k142 n σ34 (v1 + (1 : Int32)))
else
 (f_X6_hour_L62 k142 n σ30 (v1 + (1 : Int32)))))
def f_X6_hour_L155 (k202 : Mem → Option Mem) : Nat → Mem → Int32 → Option Mem
 | 0, _, _ => none
 | n + 1, σ, v1 => (getI σ 200 24 fun x43 =>
if x43 ≤ v1 then
 (k202 σ)
else
 (rdI σ 217 9 v1 fun x46 =>
rdI σ 223 9 v1 fun x48 =>
bnd (if x48 = 0 then
 (rdI σ 216 9 v1 fun x54 =>
if x54 = (3 : Int32) then
 (some (1 : Int32))
else
 (some (0 : Int32)))
else
 (some (1 : Int32))) fun x50 =>
wrI σ 217 9 v1 (x46 + x50) fun σ52 =>
f_X6_hour_L155 k202 n σ52 (v1 + (1 : Int32))))
def f_X6_hour (σ : Mem) : Option Mem :=
 (getI σ 200 0 fun x1 =>
putI σ 200 0 (x1 + (1 : Int32)) fun σ2 =>
f_X6_hour_L12 (fun σ15 => f_X6_hour_L62 (fun σ38 => getI σ38 200 48 fun x39 =>
bnd (if x39 ≤ 0 then
 (some σ38)
else
 (bnd (f_X6_flow σ38) fun σ57 =>
some σ57)) fun σ41 =>
f_X6_hour_L155 (fun σ56 => some σ56) FU σ41 (0 : Int32)) FU σ15 (0 : Int32)) FU σ2 (0 : Int32))
def f_X6_hours_L27 (k42 : Mem → Option (Mem × Int32)) (u1 : Int32) : Nat → Mem → Int32 → Option (Mem × Int32)
 | 0, _, _ => none
 | n + 1, σ, v2 => (if u1 ≤ v2 then
 (k42 σ)
else
 (bnd (f_X6_hour σ) fun σ6 =>
f_X6_hours_L27 k42 u1 n σ6 (v2 + (1 : Int32))))
def f_X6_hours (σ : Mem) (a1 : Int32) : Option (Mem × Int32) :=
 (bnd (f_X6_in σ a1 (0 : Int32) (200 : Int32)) fun x1 =>
if x1 = 0 then
 (some (σ, (-1 : Int32)))
else
 (getI σ 200 0 fun x3 =>
if (x3 + a1) ≤ (2000 : Int32) then
 (f_X6_hours_L27 (fun σ7 => getI σ7 200 0 fun x8 =>
some (σ7, x8)) a1 FU σ (0 : Int32))
else
 (some (σ, (-1 : Int32)))))
def f_X6_hand (σ : Mem) (a1 : Int32) (a2 : Int32) : Option (Mem × Int32) :=
 (bnd (f_X6_isFilter σ a1) fun x1 =>
if x1 = 0 then
 (retZm σ (0 : Int32))
else
 (bnd (f_X6_in σ a2 (0 : Int32) (2 : Int32)) fun x3 =>
if x3 = 0 then
 (retZm σ (0 : Int32))
else
 (if a2 = 0 then
 (bnd (f_X6_change σ a1) fun σ6 =>
wrI σ6 216 9 a1 (0 : Int32) fun σ8 =>
retZm σ8 (1 : Int32))
else
 (rdI σ 216 9 a1 fun x10 =>
bnd (if x10 = (4 : Int32) then
 (some (1 : Int32))
else
 (some (0 : Int32))) fun x12 =>
bnd (if a2 = (2 : Int32) then
 (some (1 : Int32))
else
 (some (0 : Int32))) fun x15 =>
if x12 = x15 then
 (if a2 = (1 : Int32) then
 (wrI σ 216 9 a1 (4 : Int32) fun σ20 =>
retZm σ20 (1 : Int32))
else
 (wrI σ 216 9 a1 (0 : Int32) fun σ21 =>
retZm σ21 (1 : Int32)))
else
 (retZm σ (0 : Int32))))))
def f_X6_history (σ : Mem) (a1 : Int32) (a2 : Int32) (a3 : Int32) : Option Int32 :=
 (getI σ 200 0 fun x1 =>
bnd (f_X6_in σ a1 (1 : Int32) x1) fun x2 =>
if x2 = 0 then
 (some (-1 : Int32))
else
 (bnd (f_X6_in σ a2 (0 : Int32) (7 : Int32)) fun x4 =>
if x4 = 0 then
 (some (-1 : Int32))
else
 (bnd (f_X6_in σ a3 (0 : Int32) (2 : Int32)) fun x6 =>
if x6 = 0 then
 (some (-1 : Int32))
else
 (rdI σ 240 48024 (((3 : Int32) * (((8 : Int32) * a1) + a2)) + a3) fun x9 =>
some x9))))
def f_X6_breaks_L32 (k83 : Int32 → Option Int32) (σ : Mem) (u1 : Int32) (u2 : Int32) (u3 : Int32) : Nat → Int32 → Int32 → Option Int32
 | 0, _, _ => none
 | n + 1, v4, v5 => (if (8 : Int32) ≤ v5 then
 (k83 v4)
else
 (rdI σ 240 48024 (((3 : Int32) * (((8 : Int32) * u3) + v5)) + (1 : Int32)) fun x8 =>
rdI σ 240 48024 (((3 : Int32) * (((8 : Int32) * u3) + v5)) + (2 : Int32)) fun x10 =>
wlet (v4 + (x8 + x10)) fun x11 =>
f_X6_breaks_L32 k83 σ u1 u2 u3 n x11 (v5 + (1 : Int32))))
def f_X6_breaks_L18 (k89 : Int32 → Option Int32) (k97 : Option Int32) (σ : Mem) (u1 : Int32) (u2 : Int32) : Nat → Int32 → Option Int32
 | 0, _ => none
 | n + 1, v3 => (getI σ 200 0 fun x4 =>
if x4 < v3 then
 (k97)
else
 (f_X6_breaks_L32 (fun x12 => if x12 ≤ u2 then
 (f_X6_breaks_L18 k89 k97 σ u1 u2 n (v3 + (1 : Int32)))
else
 (k89 v3)) σ u1 u2 v3 FU (0 : Int32) u1))
def f_X6_breaks (σ : Mem) (a1 : Int32) (a2 : Int32) : Option Int32 :=
 (bnd (f_X6_in σ a1 (0 : Int32) (7 : Int32)) fun x1 =>
if x1 = 0 then
 (some (-1 : Int32))
else
 (if 0 ≤ a2 then
 (f_X6_breaks_L18 (fun x14 => some x14) (some (-1 : Int32)) σ a1 a2 FU (1 : Int32))
else
 (some (-1 : Int32))))
def f_X6_ripe (σ : Mem) (a1 : Int32) : Option Int32 :=
 (bnd (f_X6_isFilter σ a1) fun x1 =>
if x1 = 0 then
 (some (-1 : Int32))
else
 (rdI σ 241 8 a1 fun x4 =>
some x4))
def f_X6_led_L70 (k109 : Int32 → Option Int32) (σ : Mem) (u1 : Int32) (u4 : Int32) : Nat → Int32 → Int32 → Option Int32
 | 0, _, _ => none
 | n + 1, v3, v5 => (rdI σ 206 9 u4 fun x12 =>
if x12 ≤ v5 then
 (k109 v3)
else
 (rdI σ 210 720 (((8 : Int32) * (((10 : Int32) * u4) + v5)) + u1) fun x15 =>
wlet (v3 + x15) fun x16 =>
f_X6_led_L70 k109 σ u1 u4 n x16 (v5 + (1 : Int32))))
def f_X6_led_L43 (k115 : Int32 → Option Int32) (σ : Mem) (u1 : Int32) : Nat → Int32 → Int32 → Option Int32
 | 0, _, _ => none
 | n + 1, v3, v4 => (getI σ 200 24 fun x6 =>
if x6 ≤ v4 then
 (k115 v3)
else
 (rdI σ 212 72 (((8 : Int32) * v4) + u1) fun x9 =>
wlet (v3 + x9) fun x10 =>
f_X6_led_L70 (fun x17 => f_X6_led_L43 k115 σ u1 n x17 (v4 + (1 : Int32))) σ u1 v4 FU x10 (0 : Int32)))
def f_X6_led (σ : Mem) (a1 : Int32) (a2 : Int32) : Option Int32 :=
 (bnd (f_X6_in σ a1 (0 : Int32) (7 : Int32)) fun x1 =>
if x1 = 0 then
 (some (-1 : Int32))
else
 (bnd (f_X6_in σ a2 (0 : Int32) (5 : Int32)) fun x3 =>
if x3 = 0 then
 (some (-1 : Int32))
else
 (if a2 = (1 : Int32) then
 (f_X6_led_L43 (fun x18 => some x18) σ a1 FU (0 : Int32) (0 : Int32))
else
 (rdI σ 243 48 (((6 : Int32) * a1) + a2) fun x20 =>
some x20))))
def f_X6_digest_L57 (k86 : Int32 → Option Int32) (σ : Mem) (u2 : Int32) : Nat → Int32 → Int32 → Option Int32
 | 0, _, _ => none
 | n + 1, v1, v3 => (if (8 : Int32) ≤ v3 then
 (k86 v1)
else
 (rdI σ 212 72 (((8 : Int32) * u2) + v3) fun x16 =>
wlet (((31 : Int32) * v1) + x16) fun x17 =>
f_X6_digest_L57 k86 σ u2 n x17 (v3 + (1 : Int32))))
def f_X6_digest_L118 (k171 : Int32 → Option Int32) (σ : Mem) (u2 : Int32) (u3 : Int32) : Nat → Int32 → Int32 → Option Int32
 | 0, _, _ => none
 | n + 1, v1, v4 => (if (8 : Int32) ≤ v4 then
 (k171 v1)
else
 (wlet (((8 : Int32) * (((10 : Int32) * u2) + u3)) + v4) fun x26 =>
rdI σ 210 720 x26 fun x28 =>
wlet (((31 : Int32) * v1) + x28) fun x29 =>
rdI σ 211 720 x26 fun x31 =>
wlet (((31 : Int32) * x29) + x31) fun x32 =>
f_X6_digest_L118 k171 σ u2 u3 n x32 (v4 + (1 : Int32))))
def f_X6_digest_L88 (k177 : Int32 → Option Int32) (σ : Mem) (u2 : Int32) : Nat → Int32 → Int32 → Option Int32
 | 0, _, _ => none
 | n + 1, v1, v3 => (rdI σ 206 9 u2 fun x20 =>
if x20 ≤ v3 then
 (k177 v1)
else
 (rdI σ 207 90 (((10 : Int32) * u2) + v3) fun x23 =>
wlet (((31 : Int32) * v1) + x23) fun x24 =>
f_X6_digest_L118 (fun x33 => f_X6_digest_L88 k177 σ u2 n x33 (v3 + (1 : Int32))) σ u2 v3 FU x24 (0 : Int32)))
def f_X6_digest_L11 (k183 : Int32 → Option Int32) (σ : Mem) : Nat → Int32 → Int32 → Option Int32
 | 0, _, _ => none
 | n + 1, v1, v2 => (getI σ 200 24 fun x3 =>
if x3 ≤ v2 then
 (k183 v1)
else
 (rdI σ 216 9 v2 fun x6 =>
wlet (((31 : Int32) * v1) + x6) fun x7 =>
rdI σ 217 9 v2 fun x9 =>
wlet (((31 : Int32) * x7) + x9) fun x10 =>
rdI σ 218 9 v2 fun x12 =>
wlet (((31 : Int32) * x10) + x12) fun x13 =>
f_X6_digest_L57 (fun x18 => f_X6_digest_L88 (fun x34 => f_X6_digest_L11 k183 σ n x34 (v2 + (1 : Int32))) σ v2 FU x18 (0 : Int32)) σ v2 FU x13 (0 : Int32)))
def f_X6_digest (σ : Mem) : Option Int32 :=
 (getI σ 200 0 fun x1 =>
wlet ((217 : Int32) + x1) fun x2 =>
f_X6_digest_L11 (fun x35 => some x35) σ FU x2 (0 : Int32))
def f_X6_choose_L5 (k31 : Int64 → Option Int64) (σ : Mem) (u0 : Int32) (u1 : Int32) : Nat → Int64 → Int32 → Option Int64
 | 0, _, _ => none
 | n + 1, v2, v4 => (if u1 ≤ v4 then
 (k31 v2)
else
 (divL ((v4).toInt64 + (1 : Int64)) <|
wlet ((v2 * ((u0 - v4)).toInt64) / ((v4).toInt64 + (1 : Int64))) fun y2 =>
f_X6_choose_L5 k31 σ u0 u1 n y2 (v4 + (1 : Int32))))
def f_X6_choose (σ : Mem) (a1 : Int32) (a2 : Int32) : Option Int64 :=
 (f_X6_choose_L5 (fun y3 => some y3) σ a1 a2 FU (1 : Int64) (0 : Int32))
def f_X6_ways (σ : Mem) (a1 : Int32) (a2 : Int32) : Option Int64 :=
 (bnd (f_X6_choose σ a1 (imin a2 (a1 - a2))) fun y1 =>
some y1)
def f_X6_divisor_b (rec : Mem → Int64 → Int64 → Option Int64) (σ : Mem) (a1 : Int64) (a2 : Int64) : Option Int64 :=
 (if a2 = (0 : Int64) then
 (some a1)
else
 (divL a2 <|
bnd (rec σ a2 (a1 - a1 / a2 * a2)) fun y2 =>
some y2))
def f_X6_divisor : Nat → Mem → Int64 → Int64 → Option Int64
 | 0, _, _, _ => none
 | d + 1, σ, a1, a2 => f_X6_divisor_b (f_X6_divisor d) σ a1 a2
def f_X6_share (σ : Mem) (a1 : Int32) (a2 : Int32) (a3 : Int32) (a4 : Int32) : Option Int64 :=
 (bnd (f_X6_in σ a1 (1 : Int32) (60 : Int32)) fun x1 =>
if x1 = 0 then
 (some (-1 : Int64))
else
 (bnd (f_X6_in σ a2 (0 : Int32) a1) fun x3 =>
if x3 = 0 then
 (some (-1 : Int64))
else
 (bnd (f_X6_in σ a3 (0 : Int32) a1) fun x5 =>
if x5 = 0 then
 (some (-1 : Int64))
else
 (bnd (f_X6_in σ a4 (0 : Int32) (1 : Int32)) fun x7 =>
if x7 = 0 then
 (some (-1 : Int64))
else
 (bnd (if a3 ≤ (a1 - a2) then
 (bnd (f_X6_ways σ (a1 - a2) a3) fun y15 =>
some y15)
else
 (some (0 : Int64))) fun y10 =>
bnd (f_X6_ways σ a1 a3) fun y12 =>
bnd (f_X6_divisor 120 σ y10 y12) fun y13 =>
if a4 = 0 then
 (divL y13 <|
some (y10 / y13))
else
 (divL y13 <|
some (y12 / y13)))))))
def f_X6_drops_L35 (k78 : Int32 → Option Int32) (k87 : Option Int32) (σ : Mem) (u1 : Int32) (u2 : Int32) (u3 : Int32) : Nat → Int32 → Option Int32
 | 0, _ => none
 | n + 1, v4 => (if u1 < v4 then
 (k87)
else
 (bnd (if v4 ≤ (u1 - u2) then
 (bnd (f_X6_ways σ (u1 - u2) v4) fun y13 =>
some y13)
else
 (some (0 : Int64))) fun y9 =>
bnd (f_X6_ways σ u1 v4) fun y11 =>
divL (u3).toInt64 <|
if (y11 / (u3).toInt64) < y9 then
 (f_X6_drops_L35 k78 k87 σ u1 u2 u3 n (v4 + (1 : Int32)))
else
 (k78 v4)))
def f_X6_drops (σ : Mem) (a1 : Int32) (a2 : Int32) (a3 : Int32) : Option Int32 :=
 (bnd (f_X6_in σ a1 (1 : Int32) (60 : Int32)) fun x1 =>
if x1 = 0 then
 (some (-1 : Int32))
else
 (bnd (f_X6_in σ a2 (0 : Int32) a1) fun x3 =>
if x3 = 0 then
 (some (-1 : Int32))
else
 (bnd (f_X6_in σ a3 (1 : Int32) (1000000 : Int32)) fun x5 =>
if x5 = 0 then
 (some (-1 : Int32))
else
 (f_X6_drops_L35 (fun x14 => some x14) (some (-1 : Int32)) σ a1 a2 a3 FU (0 : Int32)))))
def f_X6_layer (σ : Mem) (a1 : Int32) (a2 : Int32) : Option (Mem × Int32) :=
 (bnd (f_X6_in σ a1 (1 : Int32) (20 : Int32)) fun x1 =>
if x1 = 0 then
 (some (σ, (-1 : Int32)))
else
 (bnd (f_X6_in σ a2 (1 : Int32) (1000 : Int32)) fun x3 =>
if x3 = 0 then
 (some (σ, (-1 : Int32)))
else
 (getI σ 200 53 fun x5 =>
if x5 = (6 : Int32) then
 (some (σ, (-1 : Int32)))
else
 (getI σ 200 53 fun x8 =>
wrI σ 250 6 x8 a1 fun σ9 =>
getI σ9 200 53 fun x11 =>
wrI σ9 251 6 x11 a2 fun σ12 =>
getI σ12 200 53 fun x13 =>
putI σ12 200 53 (x13 + (1 : Int32)) fun σ14 =>
getI σ14 200 53 fun x15 =>
some (σ14, (x15 - (1 : Int32)))))))
def f_X6_lasts_L13 (k67 : Mem → Option (Mem × Int32)) (u1 : Int32) : Nat → Mem → Int32 → Option (Mem × Int32)
 | 0, _, _ => none
 | n + 1, σ, v2 => (getI σ 200 53 fun x4 =>
if x4 ≤ v2 then
 (k67 σ)
else
 (rdI σ 252 6 v2 fun x9 =>
rdI σ 250 6 x9 fun x10 =>
wrI σ 207 90 ((80 : Int32) + v2) x10 fun σ11 =>
rdI σ11 252 6 v2 fun x15 =>
rdI σ11 251 6 x15 fun x16 =>
wrI σ11 209 90 ((80 : Int32) + v2) x16 fun σ17 =>
f_X6_lasts_L13 k67 u1 n σ17 (v2 + (1 : Int32))))
def f_X6_lasts_L69 (k92 : Mem → Option (Mem × Int32)) (u1 : Int32) : Nat → Mem → Int32 → Option (Mem × Int32)
 | 0, _, _ => none
 | n + 1, σ, v2 => (if (80 : Int32) ≤ v2 then
 (k92 σ)
else
 (wrI σ 210 720 ((640 : Int32) + v2) (0 : Int32) fun σ21 =>
f_X6_lasts_L69 k92 u1 n σ21 (v2 + (1 : Int32))))
def f_X6_lasts_L94 (k116 : Mem → Option (Mem × Int32)) (u1 : Int32) : Nat → Mem → Int32 → Option (Mem × Int32)
 | 0, _, _ => none
 | n + 1, σ, v2 => (if (8 : Int32) ≤ v2 then
 (k116 σ)
else
 (wrI σ 212 72 ((64 : Int32) + v2) (0 : Int32) fun σ25 =>
f_X6_lasts_L94 k116 u1 n σ25 (v2 + (1 : Int32))))
def f_X6_lasts_L203 (k249 : Mem → Int32 → Option (Mem × Int32)) (u1 : Int32) (u2 : Int32) (u3 : Int32) (u4 : Int32) : Nat → Mem → Int32 → Int32 → Option (Mem × Int32)
 | 0, _, _, _ => none
 | n + 1, σ, v5, v6 => (if v6 < 0 then
 (k249 σ v5)
else
 (bnd2 (if u4 = 0 then
 (rdI σ 239 8 v6 fun x46 =>
some (σ, x46))
else
 (rdI σ 239 8 v6 fun x48 =>
bnd2 (f_X6_lead σ (8 : Int32) v6 x48) fun σ49 x50 =>
some (σ49, x50))) fun σ41 x42 =>
wlet (v5 + x42) fun x44 =>
f_X6_lasts_L203 k249 u1 u2 u3 u4 n σ41 x44 (v6 + (-1 : Int32))))
def f_X6_lasts_L120 (k255 : Mem → Int32 → Option (Mem × Int32)) (k263 : Mem → Option (Mem × Int32)) (u1 : Int32) : Nat → Mem → Int32 → Int32 → Option (Mem × Int32)
 | 0, _, _, _ => none
 | n + 1, σ, v2, v3 => (if (100 : Int32) ≤ v3 then
 (k263 σ)
else
 (bnd (if v2 = 0 then
 (bnd (f_X6_weightOf σ (8 : Int32)) fun x59 =>
if x59 ≤ 0 then
 (some (0 : Int32))
else
 (some (1 : Int32)))
else
 (some (0 : Int32))) fun x29 =>
bnd (if v2 = 0 then
 (bnd (f_X6_bed σ (8 : Int32)) fun x57 =>
if x57 = (-1 : Int32) then
 (some (1 : Int32))
else
 (some (0 : Int32)))
else
 (some (1 : Int32))) fun x32 =>
bnd2 (if x29 = 0 then
 (some (x32, x29))
else
 (getI σ 200 48 fun x54 =>
bnd (f_X6_pushFor σ (8 : Int32) x54) fun x55 =>
if x55 = (-1 : Int32) then
 (some ((1 : Int32), (0 : Int32)))
else
 (some (x32, x29)))) fun x35 x36 =>
bnd (f_X6_look_2 σ (8 : Int32)) fun σ38 =>
f_X6_lasts_L203 (fun σ51 x52 => if x52 ≤ u1 then
 (f_X6_lasts_L120 k255 k263 u1 n σ51 x35 (v3 + (1 : Int32)))
else
 (k255 σ51 v3)) u1 x35 v3 x36 FU σ38 (0 : Int32) (7 : Int32)))
def f_X6_lasts (σ : Mem) (a1 : Int32) : Option (Mem × Int32) :=
 (getI σ 200 53 fun x2 =>
wrI σ 206 9 (8 : Int32) x2 fun σ3 =>
f_X6_lasts_L13 (fun σ18 => f_X6_lasts_L69 (fun σ22 => f_X6_lasts_L94 (fun σ26 => f_X6_lasts_L120 (fun σ61 x62 => some (σ61, x62)) (fun σ63 => some (σ63, (100 : Int32))) a1 FU σ26 (0 : Int32) (0 : Int32)) a1 FU σ22 (0 : Int32)) a1 FU σ18 (0 : Int32)) a1 FU σ3 (0 : Int32))
def f_X6_arrange_b_L33 (rec : Mem → Int32 → Int32 → Int32 → Option Mem) (k62 : Mem → Option Mem) : Nat → Mem → Int32 → Option Mem
 | 0, _, _ => none
 | n + 1, σ, v5 => (getI σ 200 53 fun x8 =>
if x8 ≤ v5 then
 (k62 σ)
else
 (rdI σ 252 6 v5 fun x12 =>
wrI σ 253 6 v5 x12 fun σ13 =>
f_X6_arrange_b_L33 rec k62 n σ13 (v5 + (1 : Int32))))
def f_X6_arrange_b_L66 (rec : Mem → Int32 → Int32 → Int32 → Option Mem) (k112 : Mem → Option Mem) (u1 : Int32) (u2 : Int32) (u3 : Int32) : Nat → Mem → Int32 → Option Mem
 | 0, _, _ => none
 | n + 1, σ, v4 => (getI σ 200 53 fun x15 =>
if x15 ≤ v4 then
 (k112 σ)
else
 (if ((u2 >>> (v4 &&& 31)) &&& (1 : Int32)) = 0 then
 (wrI σ 252 6 u1 v4 fun σ19 =>
bnd (rec σ19 (u1 + (1 : Int32)) (u2 ||| ((1 : Int32) <<< (v4 &&& 31))) u3) fun σ20 =>
f_X6_arrange_b_L66 rec k112 u1 u2 u3 n σ20 (v4 + (1 : Int32)))
else
 (f_X6_arrange_b_L66 rec k112 u1 u2 u3 n σ (v4 + (1 : Int32)))))
def f_X6_arrange_b (rec : Mem → Int32 → Int32 → Int32 → Option Mem) (σ : Mem) (a1 : Int32) (a2 : Int32) (a3 : Int32) : Option Mem :=
 (getI σ 200 53 fun x1 =>
if a1 = x1 then
 (bnd2 (f_X6_lasts σ a3) fun σ3 x4 =>
getI σ3 200 54 fun x5 =>
if x4 ≤ x5 then
 (some σ3)
else
 (putI σ3 200 54 x4 fun σ7 =>
f_X6_arrange_b_L33 rec (fun σ14 => some σ14) FU σ7 (0 : Int32)))
else
 (f_X6_arrange_b_L66 rec (fun σ21 => some σ21) a1 a2 a3 FU σ (0 : Int32)))
def f_X6_arrange : Nat → Mem → Int32 → Int32 → Int32 → Option Mem
 | 0, _, _, _, _ => none
 | d + 1, σ, a1, a2, a3 => f_X6_arrange_b (f_X6_arrange d) σ a1 a2 a3
def f_X6_order (σ : Mem) (a1 : Int32) (a2 : Int32) : Option (Mem × Int32) :=
 (bnd (f_X6_in σ a1 (0 : Int32) (1000000 : Int32)) fun x1 =>
if x1 = 0 then
 (some (σ, (-1 : Int32)))
else
 (getI σ 200 53 fun x3 =>
bnd (f_X6_in σ a2 (-1 : Int32) (x3 - (1 : Int32))) fun x4 =>
if x4 = 0 then
 (some (σ, (-1 : Int32)))
else
 (getI σ 200 53 fun x6 =>
if x6 = 0 then
 (some (σ, (-1 : Int32)))
else
 (getI σ 200 48 fun x8 =>
if x8 = 0 then
 (some (σ, (-1 : Int32)))
else
 (putI σ 200 54 (-1 : Int32) fun σ10 =>
bnd (f_X6_arrange 8 σ10 (0 : Int32) (0 : Int32) a1) fun σ11 =>
if a2 = (-1 : Int32) then
 (getI σ11 200 54 fun x13 =>
some (σ11, x13))
else
 (rdI σ11 253 6 a2 fun x15 =>
some (σ11, x15)))))))
def f_X6_cost (σ : Mem) (a1 : Int32) (a2 : Int32) : Option (Mem × Int32) :=
 (if a1 = (-1 : Int32) then
 (bnd (f_X6_in σ a2 (0 : Int32) (10000 : Int32)) fun x2 =>
if x2 = 0 then
 (retZm σ (0 : Int32))
else
 (putI σ 200 57 a2 fun σ4 =>
retZm σ4 (1 : Int32)))
else
 (bnd (f_X6_in σ a1 (0 : Int32) (19 : Int32)) fun x5 =>
if x5 = 0 then
 (retZm σ (0 : Int32))
else
 (bnd (f_X6_in σ a2 (0 : Int32) (1000 : Int32)) fun x7 =>
if x7 = 0 then
 (retZm σ (0 : Int32))
else
 (wrI σ 256 20 a1 a2 fun σ10 =>
retZm σ10 (1 : Int32)))))
def f_X6_from (σ : Mem) (a1 : Int32) (a2 : Int32) : Option Int64 :=
 (rdI σ 256 20 (imin (19 : Int32) a2) fun x2 =>
rdL σ 257 4941 ((((81 : Int32) * (a1 - (1 : Int32))) + a2) + (1 : Int32)) fun y4 =>
some ((x2).toInt64 + y4))
def f_X6_cheapest_L34 (k55 : Mem → Option (Mem × Int32)) (u1 : Int32) (u2 : Int32) (u3 : Int32) : Nat → Mem → Int32 → Option (Mem × Int32)
 | 0, _, _ => none
 | n + 1, σ, v4 => (if (81 : Int32) ≤ v4 then
 (k55 σ)
else
 (wrL σ 257 4941 v4 (0 : Int64) fun σ9 =>
f_X6_cheapest_L34 k55 u1 u2 u3 n σ9 (v4 + (1 : Int32))))
def f_X6_cheapest_L67 (k117 : Mem → Option (Mem × Int32)) (u1 : Int32) (u2 : Int32) (u3 : Int32) (u4 : Int32) : Nat → Mem → Int32 → Option (Mem × Int32)
 | 0, _, _ => none
 | n + 1, σ, v5 => (if (80 : Int32) ≤ v5 then
 (k117 σ)
else
 (bnd (f_X6_from σ u4 v5) fun y14 =>
getI σ 200 57 fun x15 =>
bnd (f_X6_from σ u4 (0 : Int32)) fun y16 =>
wrL σ 257 4941 (((81 : Int32) * u4) + v5) (lmin y14 ((x15).toInt64 + y16)) fun σ17 =>
f_X6_cheapest_L67 k117 u1 u2 u3 u4 n σ17 (v5 + (1 : Int32))))
def f_X6_cheapest_L58 (k123 : Mem → Option (Mem × Int32)) (u1 : Int32) (u2 : Int32) (u3 : Int32) : Nat → Mem → Int32 → Option (Mem × Int32)
 | 0, _, _ => none
 | n + 1, σ, v4 => (if u1 < v4 then
 (k123 σ)
else
 (f_X6_cheapest_L67 (fun σ18 => f_X6_cheapest_L58 k123 u1 u2 u3 n σ18 (v4 + (1 : Int32))) u1 u2 u3 v4 FU σ (0 : Int32)))
def f_X6_cheapest_L143 (k181 : Int32 → Option (Mem × Int32)) (k192 : Option (Mem × Int32)) (σ : Mem) (u1 : Int32) (u2 : Int32) : Nat → Int32 → Option (Mem × Int32)
 | 0, _ => none
 | n + 1, v4 => (if v4 ≤ 0 then
 (k192)
else
 (wlet ((u2 + u1) - v4) fun x24 =>
bnd (f_X6_from σ v4 x24) fun y25 =>
getI σ 200 57 fun x26 =>
bnd (f_X6_from σ v4 (0 : Int32)) fun y27 =>
if y25 ≤ ((x26).toInt64 + y27) then
 (f_X6_cheapest_L143 k181 k192 σ u1 u2 n (v4 + (-1 : Int32)))
else
 (k181 v4)))
def f_X6_cheapest (σ : Mem) (a1 : Int32) (a2 : Int32) (a3 : Int32) : Option (Mem × Int32) :=
 (bnd (f_X6_in σ a1 (1 : Int32) (60 : Int32)) fun x1 =>
if x1 = 0 then
 (some (σ, (-1 : Int32)))
else
 (bnd (f_X6_in σ a2 (0 : Int32) (19 : Int32)) fun x3 =>
if x3 = 0 then
 (some (σ, (-1 : Int32)))
else
 (bnd (f_X6_in σ a3 (0 : Int32) (1 : Int32)) fun x5 =>
if x5 = 0 then
 (some (σ, (-1 : Int32)))
else
 (f_X6_cheapest_L34 (fun σ10 => f_X6_cheapest_L58 (fun σ19 => if a3 = 0 then
 (rdL σ19 257 4941 (((81 : Int32) * a1) + a2) fun y22 =>
some (σ19, (y22).toInt32))
else
 (f_X6_cheapest_L143 (fun x29 => some (σ19, (a1 - x29))) (some (σ19, (-1 : Int32))) σ19 a1 a2 FU a1)) a1 a2 a3 FU σ10 (1 : Int32)) a1 a2 a3 FU σ (0 : Int32)))))
def f_X6_gauge (σ : Mem) (a1 : Int32) (a2 : Int32) (a3 : Int32) (a4 : Int32) : Option (Mem × Int32) :=
 (bnd (f_X6_isCell σ a1 a2) fun x1 =>
if x1 = 0 then
 (some (σ, (-1 : Int32)))
else
 (bnd (f_X6_in σ a3 (1 : Int32) (10000 : Int32)) fun x3 =>
if x3 = 0 then
 (some (σ, (-1 : Int32)))
else
 (bnd (f_X6_in σ a4 a3 (10000 : Int32)) fun x5 =>
if x5 = 0 then
 (some (σ, (-1 : Int32)))
else
 (getI σ 200 62 fun x7 =>
if x7 = (100 : Int32) then
 (some (σ, (-1 : Int32)))
else
 (getI σ 200 62 fun x10 =>
wrI σ 259 100 x10 (((10 : Int32) * a1) + a2) fun σ11 =>
getI σ11 200 62 fun x13 =>
wrI σ11 260 100 x13 a3 fun σ14 =>
getI σ14 200 62 fun x16 =>
wrI σ14 261 100 x16 a4 fun σ17 =>
getI σ17 200 62 fun x19 =>
getI σ17 200 0 fun x20 =>
wrI σ17 262 100 x19 x20 fun σ21 =>
getI σ21 200 62 fun x22 =>
putI σ21 200 62 (x22 + (1 : Int32)) fun σ23 =>
getI σ23 200 62 fun x24 =>
some (σ23, (x24 - (1 : Int32))))))))
def f_X6_isAsked (σ : Mem) (a1 : Int32) (a2 : Int32) (a3 : Int32) : Option Int32 :=
 (bnd (f_X6_isCell σ a1 a2) fun x1 =>
if x1 = 0 then
 (retZ (0 : Int32))
else
 (getI σ 200 0 fun x3 =>
bnd (f_X6_in σ a3 (0 : Int32) x3) fun x4 =>
if x4 = 0 then
 (retZ (0 : Int32))
else
 (retZ (1 : Int32))))
def f_X6_agrees_L24 (k75 : Option Int32) (k83 : Option Int32) (σ : Mem) (u1 : Int32) (u3 : Int32) (u4 : Int32) (u5 : Int32) : Nat → Int32 → Option Int32
 | 0, _ => none
 | n + 1, v6 => (if u4 ≤ v6 then
 (k83)
else
 (rdI σ 259 100 v6 fun x9 =>
if x9 = u1 then
 (rdI σ 262 100 v6 fun x12 =>
if u3 < x12 then
 (f_X6_agrees_L24 k75 k83 σ u1 u3 u4 u5 n (v6 + (1 : Int32)))
else
 (rdI σ 260 100 v6 fun x15 =>
rdI σ 261 100 v6 fun x17 =>
bnd (f_X6_in σ u5 x15 x17) fun x18 =>
if x18 = 0 then
 (k75)
else
 (f_X6_agrees_L24 k75 k83 σ u1 u3 u4 u5 n (v6 + (1 : Int32)))))
else
 (f_X6_agrees_L24 k75 k83 σ u1 u3 u4 u5 n (v6 + (1 : Int32)))))
def f_X6_agrees (σ : Mem) (a1 : Int32) (a2 : Int32) (a3 : Int32) (a4 : Int32) : Option Int32 :=
 (rdI σ 207 90 a1 fun x2 =>
rdI σ 209 90 a1 fun x4 =>
bnd (f_X6_widthOf σ x2 x4 a2) fun x5 =>
bnd (f_X6_resistOf σ x5) fun x6 =>
f_X6_agrees_L24 (retZ (0 : Int32)) (retZ (1 : Int32)) σ a1 a3 a4 x6 FU (0 : Int32))
def f_X6_readBack_L6 (k58 : Int32 → Option Int32) (σ : Mem) (u1 : Int32) (u2 : Int32) (u3 : Int32) (u4 : Int32) : Nat → Int32 → Int32 → Option Int32
 | 0, _, _ => none
 | n + 1, v5, v6 => (rdI σ 207 90 u1 fun x2 =>
rdI σ 209 90 u1 fun x4 =>
if (x2 * x4) ≤ v6 then
 (k58 v5)
else
 (if u4 = (1 : Int32) then
 (bnd (f_X6_agrees σ u1 v6 u2 u3) fun x7 =>
if x7 = 0 then
 (f_X6_readBack_L6 k58 σ u1 u2 u3 u4 n v5 (v6 + (1 : Int32)))
else
 (f_X6_readBack_L6 k58 σ u1 u2 u3 u4 n v6 (v6 + (1 : Int32))))
else
 (if v5 = (-1 : Int32) then
 (bnd (f_X6_agrees σ u1 v6 u2 u3) fun x10 =>
if x10 = 0 then
 (f_X6_readBack_L6 k58 σ u1 u2 u3 u4 n v5 (v6 + (1 : Int32)))
else
 (f_X6_readBack_L6 k58 σ u1 u2 u3 u4 n v6 (v6 + (1 : Int32))))
else
 (f_X6_readBack_L6 k58 σ u1 u2 u3 u4 n v5 (v6 + (1 : Int32))))))
def f_X6_readBack (σ : Mem) (a1 : Int32) (a2 : Int32) (a3 : Int32) (a4 : Int32) : Option Int32 :=
 (f_X6_readBack_L6 (fun x12 => some x12) σ a1 a2 a3 a4 FU (-1 : Int32) (0 : Int32))
def f_X6_back (σ : Mem) (a1 : Int32) (a2 : Int32) (a3 : Int32) (a4 : Int32) : Option Int32 :=
 (bnd (f_X6_isAsked σ a1 a2 a3) fun x1 =>
if x1 = 0 then
 (some (-1 : Int32))
else
 (bnd (f_X6_in σ a4 (0 : Int32) (1 : Int32)) fun x3 =>
if x3 = 0 then
 (some (-1 : Int32))
else
 (getI σ 200 62 fun x5 =>
bnd (f_X6_readBack σ (((10 : Int32) * a1) + a2) a3 x5 a4) fun x6 =>
some x6)))
def f_X6_barred_L15 (k71 : Int32 → Option Int32) (k80 : Option Int32) (σ : Mem) (u1 : Int32) (u2 : Int32) (u3 : Int32) : Nat → Int32 → Option Int32
 | 0, _ => none
 | n + 1, v4 => (getI σ 200 62 fun x3 =>
if x3 ≤ v4 then
 (k80)
else
 (rdI σ 259 100 v4 fun x6 =>
if x6 = (((10 : Int32) * u1) + u2) then
 (rdI σ 262 100 v4 fun x9 =>
if u3 < x9 then
 (f_X6_barred_L15 k71 k80 σ u1 u2 u3 n (v4 + (1 : Int32)))
else
 (bnd (f_X6_readBack σ (((10 : Int32) * u1) + u2) u3 (v4 + (1 : Int32)) (0 : Int32)) fun x11 =>
if x11 = (-1 : Int32) then
 (k71 v4)
else
 (f_X6_barred_L15 k71 k80 σ u1 u2 u3 n (v4 + (1 : Int32)))))
else
 (f_X6_barred_L15 k71 k80 σ u1 u2 u3 n (v4 + (1 : Int32)))))
def f_X6_barred (σ : Mem) (a1 : Int32) (a2 : Int32) (a3 : Int32) : Option Int32 :=
 (bnd (f_X6_isAsked σ a1 a2 a3) fun x1 =>
if x1 = 0 then
 (some (-1 : Int32))
else
 (f_X6_barred_L15 (fun x13 => some x13) (some (-1 : Int32)) σ a1 a2 a3 FU (0 : Int32)))
def f_X6_count_L10 (k83 : Int32 → Int32 → Int32 → Option Int32) (σ : Mem) (u1 : Int32) : Nat → Int32 → Int32 → Int32 → Int32 → Option Int32
 | 0, _, _, _, _ => none
 | n + 1, v2, v3, v4, v5 => (getI σ 200 24 fun x1 =>
if x1 ≤ v5 then
 (k83 v2 v3 v4)
else
 (rdI σ 223 9 v5 fun x4 =>
bnd (if x4 = 0 then
 (some (0 : Int32))
else
 (some (1 : Int32))) fun x6 =>
wlet (v2 + x6) fun x8 =>
rdI σ 216 9 v5 fun x10 =>
bnd (if x10 = (4 : Int32) then
 (some (1 : Int32))
else
 (some (0 : Int32))) fun x12 =>
wlet (v3 + x12) fun x14 =>
rdI σ 216 9 v5 fun x16 =>
bnd (if x16 = (5 : Int32) then
 (some (1 : Int32))
else
 (some (0 : Int32))) fun x18 =>
wlet (v4 + x18) fun x20 =>
f_X6_count_L10 k83 σ u1 n x8 x14 x20 (v5 + (1 : Int32))))
def f_X6_count (σ : Mem) (a1 : Int32) : Option Int32 :=
 (f_X6_count_L10 (fun x21 x22 x23 => if a1 = (0 : Int32) then
 (getI σ 200 0 fun x25 =>
some x25)
else if a1 = (1 : Int32) then
 (getI σ 200 24 fun x26 =>
some x26)
else if a1 = (2 : Int32) then
 (some x21)
else if a1 = (3 : Int32) then
 (some x22)
else if a1 = (4 : Int32) then
 (some x23)
else if a1 = (5 : Int32) then
 (getI σ 200 34 fun x27 =>
some x27)
else if a1 = (6 : Int32) then
 (getI σ 200 53 fun x28 =>
some x28)
else if a1 = (7 : Int32) then
 (getI σ 200 62 fun x29 =>
some x29)
else if a1 = (8 : Int32) then
 (getI σ 200 29 fun x30 =>
some x30)
else if a1 = (9 : Int32) then
 (getI σ 200 48 fun x31 =>
some x31)
else 
 (some (-1 : Int32))) σ a1 FU (0 : Int32) (0 : Int32) (0 : Int32) (0 : Int32))
def f_X1_isIn (σ : Mem) (a1 : Int64) (a2 : Int64) (a3 : Int64) : Option Int32 :=
 (if a1 < a2 then
 (retZ (0 : Int32))
else
 (if a3 < a1 then
 (retZ (0 : Int32))
else
 (retZ (1 : Int32))))
def f_X1_isSize (σ : Mem) (a1 : Int32) : Option Int32 :=
 (bnd (f_X1_isIn σ (a1).toInt64 (0 : Int64) (7 : Int64)) fun x1 =>
retZ x1)
def f_X1_grain (σ : Mem) (a1 : Int32) (a2 : Int32) (a3 : Int32) : Option (Mem × Int32) :=
 (bnd (f_X1_isSize σ a1) fun x1 =>
if x1 = 0 then
 (retZm σ (0 : Int32))
else
 (bnd (f_X1_isIn σ (a2).toInt64 (0 : Int64) (2 : Int64)) fun x3 =>
if x3 = 0 then
 (retZm σ (0 : Int32))
else
 (bnd (f_X1_isIn σ (a3).toInt64 (0 : Int64) (1000 : Int64)) fun x5 =>
if x5 = 0 then
 (retZm σ (0 : Int32))
else
 (bnd (if a2 = 0 then
 (some 101)
else
 (if a2 = (1 : Int32) then
 (some 102)
else
 (some 103))) fun j8 =>
wrI σ j8 8 a1 a3 fun σ10 =>
retZm σ10 (1 : Int32)))))
def f_X1_isFilter (σ : Mem) (a1 : Int32) : Option Int32 :=
 (if a1 < 0 then
 (retZ (0 : Int32))
else
 (getI σ 0 3 fun x2 =>
if x2 ≤ a1 then
 (retZ (0 : Int32))
else
 (retZ (1 : Int32))))
def f_X1_set (σ : Mem) (a1 : Int32) (a2 : Int32) (a3 : Int32) : Option (Mem × Int32) :=
 (bnd (f_X1_isFilter σ a1) fun x1 =>
if x1 = 0 then
 (retZm σ (0 : Int32))
else
 (bnd (f_X1_isIn σ (a2).toInt64 (0 : Int64) (2 : Int64)) fun x3 =>
if x3 = 0 then
 (retZm σ (0 : Int32))
else
 (bnd (if a2 = (2 : Int32) then
 (some (200 : Int64))
else
 (some (1000 : Int64))) fun y6 =>
bnd (f_X1_isIn σ (a3).toInt64 (1 : Int64) y6) fun x8 =>
if x8 = 0 then
 (retZm σ (0 : Int32))
else
 (rdN σ 3 8 a1 fun j11 =>
wrI σ (j11 + 4) 3 a2 a3 fun σ13 =>
retZm σ13 (1 : Int32)))))
def f_X1_isCell (σ : Mem) (a1 : Int32) (a2 : Int32) : Option Int32 :=
 (bnd (f_X1_isFilter σ a1) fun x1 =>
if x1 = 0 then
 (retZ (0 : Int32))
else
 (rdN σ 3 8 a1 fun j4 =>
getI σ j4 5 fun x5 =>
bnd (f_X1_isIn σ (a2).toInt64 (0 : Int64) ((x5 - (1 : Int32))).toInt64) fun x6 =>
if x6 = 0 then
 (retZ (0 : Int32))
else
 (retZ (1 : Int32))))
def f_X4_of (σ : Mem) (i0 : Nat) (a1 : Int32) : Option Int32 :=
 (rdI σ (i0 + 1) 8 a1 fun x2 =>
some x2)
def f_X19_all_L4 (k26 : Int32 → Option Int32) (σ : Mem) (u0 : Nat) : Nat → Int32 → Int32 → Option Int32
 | 0, _, _ => none
 | n + 1, v1, v2 => (if (8 : Int32) ≤ v2 then
 (k26 v1)
else
 (bnd (f_X4_of σ u0 v2) fun x2 =>
wlet (v1 + x2) fun x3 =>
f_X19_all_L4 k26 σ u0 n x3 (v2 + (1 : Int32))))
def f_X19_all (σ : Mem) (i0 : Nat) : Option Int32 :=
 (f_X19_all_L4 (fun x4 => some x4) σ i0 FU (0 : Int32) (0 : Int32))
def f_X7_widthWith (σ : Mem) (i0 : Nat) (a1 : Int32) : Option Int32 :=
 (getI σ i0 4 fun x1 =>
getI σ i0 2 fun x2 =>
divI x2 <|
some (imax (0 : Int32) (x1 - (a1 / x2))))
def f_X7_width (σ : Mem) (i0 : Nat) : Option Int32 :=
 (bnd (f_X19_all σ i0) fun x1 =>
bnd (f_X7_widthWith σ i0 x1) fun x2 =>
some x2)
def f_X7_resistOf (σ : Mem) (a1 : Int32) : Option Int32 :=
 (if a1 = 0 then
 (some (-1 : Int32))
else
 (divI a1 <|
divI a1 <|
some (imax (1 : Int32) (((10000 : Int32) / a1) / a1))))
def f_X7_resist (σ : Mem) (i0 : Nat) : Option Int32 :=
 (bnd (f_X7_width σ i0) fun x1 =>
bnd (f_X7_resistOf σ x1) fun x2 =>
some x2)
def f_X1_celled (σ : Mem) (a1 : Int32) (a2 : Int32) (a3 : Int32) : Option Int32 :=
 (bnd (f_X1_isCell σ a1 a2) fun x1 =>
if x1 = 0 then
 (some (-1 : Int32))
else
 (rdN σ 3 8 a1 fun j4 =>
rdN σ (j4 + 1) 10 a2 fun j6 =>
if a3 = (0 : Int32) then
 (getI σ j6 4 fun x8 =>
some x8)
else if a3 = (1 : Int32) then
 (getI σ j6 2 fun x9 =>
some x9)
else if a3 = (2 : Int32) then
 (bnd (f_X7_width σ j6) fun x10 =>
some x10)
else if a3 = (3 : Int32) then
 (bnd (f_X7_resist σ j6) fun x11 =>
some x11)
else if a3 = (4 : Int32) then
 (bnd (f_X19_all σ j6) fun x12 =>
some x12)
else 
 (some (-1 : Int32))))
def f_X1_held (σ : Mem) (a1 : Int32) (a2 : Int32) (a3 : Int32) (a4 : Int32) : Option Int32 :=
 (bnd (f_X1_isCell σ a1 a2) fun x1 =>
if x1 = 0 then
 (some (-1 : Int32))
else
 (bnd (f_X1_isSize σ a3) fun x3 =>
if x3 = 0 then
 (some (-1 : Int32))
else
 (bnd (f_X1_isIn σ (a4).toInt64 (0 : Int64) (1 : Int64)) fun x5 =>
if x5 = 0 then
 (some (-1 : Int32))
else
 (rdN σ 3 8 a1 fun j8 =>
rdN σ (j8 + 1) 10 a2 fun j10 =>
if a4 = 0 then
 (rdI σ (j10 + 1) 8 a3 fun x13 =>
some x13)
else
 (rdI σ (j10 + 2) 8 a3 fun x15 =>
some x15)))))
def f_X3_isOpen_L2 (k22 : Option Int32) (k30 : Option Int32) (σ : Mem) (u0 : Nat) : Nat → Int32 → Option Int32
 | 0, _ => none
 | n + 1, v1 => (getI σ u0 5 fun x1 =>
if x1 ≤ v1 then
 (k30)
else
 (rdN σ (u0 + 1) 10 v1 fun j4 =>
bnd (f_X7_width σ j4) fun x5 =>
if x5 = 0 then
 (k22)
else
 (f_X3_isOpen_L2 k22 k30 σ u0 n (v1 + (1 : Int32)))))
def f_X3_isOpen (σ : Mem) (i0 : Nat) : Option Int32 :=
 (f_X3_isOpen_L2 (retZ (0 : Int32)) (retZ (1 : Int32)) σ i0 FU (0 : Int32))
def f_X3_bed_L4 (k30 : Int32 → Option Int32) (σ : Mem) (u0 : Nat) : Nat → Int32 → Int32 → Option Int32
 | 0, _, _ => none
 | n + 1, v1, v2 => (getI σ u0 5 fun x1 =>
if x1 ≤ v2 then
 (k30 v1)
else
 (rdN σ (u0 + 1) 10 v2 fun j4 =>
bnd (f_X7_resist σ j4) fun x5 =>
wlet (v1 + x5) fun x6 =>
f_X3_bed_L4 k30 σ u0 n x6 (v2 + (1 : Int32))))
def f_X3_bed (σ : Mem) (i0 : Nat) : Option Int32 :=
 (f_X3_bed_L4 (fun x7 => some x7) σ i0 FU (0 : Int32) (0 : Int32))
def f_X1_told (σ : Mem) (a1 : Int32) (a2 : Int32) : Option Int32 :=
 (bnd (f_X1_isFilter σ a1) fun x1 =>
if x1 = 0 then
 (some (-1 : Int32))
else
 (rdN σ 3 8 a1 fun j4 =>
if a2 = (0 : Int32) then
 (getI σ j4 6 fun x6 =>
some x6)
else if a2 = (1 : Int32) then
 (getI σ j4 7 fun x7 =>
some x7)
else if a2 = (2 : Int32) then
 (getI σ j4 8 fun x8 =>
some x8)
else if a2 = (3 : Int32) then
 (bnd (f_X19_all σ (j4 + 2)) fun x10 =>
some x10)
else if a2 = (4 : Int32) then
 (bnd (f_X3_isOpen σ j4) fun x11 =>
if x11 = 0 then
 (some (-1 : Int32))
else
 (bnd (f_X3_bed σ j4) fun x13 =>
some x13))
else if a2 = (5 : Int32) then
 (getI σ j4 5 fun x14 =>
some x14)
else if a2 = (6 : Int32) then
 (getI σ j4 9 fun x15 =>
some x15)
else if a2 = (7 : Int32) then
 (getI σ j4 10 fun x16 =>
some x16)
else if a2 = (8 : Int32) then
 (getI σ j4 11 fun x17 =>
some x17)
else 
 (some (-1 : Int32))))
def f_X3_press (σ : Mem) (i0 : Nat) : Option Int32 :=
 (rdI σ (i0 + 4) 3 (0 : Int32) fun x2 =>
some x2)
def f_X5_resist (σ : Mem) (i0 : Nat) (a1 : Int32) (a2 : Int32) : Option Int64 :=
 (bnd (f_X19_all σ i0) fun x1 =>
divI a2 <|
divL (100 : Int64) <|
some (((x1).toInt64 * (((100 : Int32) + (a1 / a2))).toInt64) / (100 : Int64)))
def f_X3_needs (σ : Mem) (i0 : Nat) (a1 : Int64) (a2 : Int32) (a3 : Int32) : Option Int64 :=
 (bnd (f_X3_press σ i0) fun x2 =>
bnd (f_X5_resist σ (i0 + 2) a2 x2) fun y3 =>
divL (100 : Int64) <|
some (((a3).toInt64 * (a1 + y3)) / (100 : Int64)))
def f_X3_pushWith_L27 (k62 : Int64 → Int64 → Option Int32) (σ : Mem) (u0 : Nat) (u1 : Int32) (u2 : Int64) : Nat → Int64 → Int64 → Option Int32
 | 0, _, _ => none
 | n + 1, v4, v6 => (if v6 ≤ v4 then
 (k62 v4 v6)
else
 (if (100000 : Int64) < v6 then
 (k62 v4 v6)
else
 (bnd (f_X3_needs σ u0 u2 (v6).toInt32 u1) fun y8 =>
f_X3_pushWith_L27 k62 σ u0 u1 u2 n v6 y8)))
def f_X3_pushWith (σ : Mem) (i0 : Nat) (a1 : Int32) : Option Int32 :=
 (bnd (f_X3_isOpen σ i0) fun x1 =>
if x1 = 0 then
 (some (-1 : Int32))
else
 (bnd (f_X3_bed σ i0) fun x3 =>
wlet (x3).toInt64 fun y4 =>
bnd (f_X3_needs σ i0 y4 (0 : Int32) a1) fun y5 =>
f_X3_pushWith_L27 (fun y9 y10 => if y10 ≤ (100000 : Int64) then
 (some (y9).toInt32)
else
 (some (-1 : Int32))) σ i0 a1 y4 FU (0 : Int64) y5))
def f_X1_push (σ : Mem) (a1 : Int32) (a2 : Int32) : Option Int32 :=
 (bnd (f_X1_isFilter σ a1) fun x1 =>
if x1 = 0 then
 (some (-1 : Int32))
else
 (bnd (f_X1_isIn σ (a2).toInt64 (1 : Int64) (1000 : Int64)) fun x3 =>
if x3 = 0 then
 (some (-1 : Int32))
else
 (rdN σ 3 8 a1 fun j6 =>
bnd (f_X3_pushWith σ j6 a2) fun x7 =>
some x7)))
def f_X1_bytes_L5 (k33 : Int32 → Option Int32) (σ : Mem) (u0 : Int32) : Nat → Int32 → Int32 → Option Int32
 | 0, _, _ => none
 | n + 1, v1, v2 => (if v2 < 0 then
 (k33 v1)
else
 (bnd (if ((u0 >>> (v2 &&& 31)) &&& (255 : Int32)) = 0 then
 (some (0 : Int32))
else
 (some (1 : Int32))) fun x3 =>
wlet (v1 + x3) fun x5 =>
f_X1_bytes_L5 k33 σ u0 n x5 (v2 + (-8 : Int32))))
def f_X1_bytes (σ : Mem) (a1 : Int32) : Option Int32 :=
 (f_X1_bytes_L5 (fun x6 => some x6) σ a1 FU (0 : Int32) (24 : Int32))
def f_X1_put_L3 (k49 : Mem → Option Mem) (u1 : Int32) : Nat → Mem → Int32 → Option Mem
 | 0, _, _ => none
 | n + 1, σ, v2 => (if v2 < 0 then
 (k49 σ)
else
 (if ((u1 >>> (v2 &&& 31)) &&& (255 : Int32)) = 0 then
 (f_X1_put_L3 k49 u1 n σ (v2 + (-8 : Int32)))
else
 (getI σ 0 7 fun x4 =>
wrB σ 5 160 x4 ((u1 >>> (v2 &&& 31))).toInt8.toInt32 fun σ5 =>
getI σ5 0 7 fun x6 =>
putI σ5 0 7 (x6 + (1 : Int32)) fun σ7 =>
f_X1_put_L3 k49 u1 n σ7 (v2 + (-8 : Int32)))))
def f_X1_put (σ : Mem) (a1 : Int32) : Option Mem :=
 (f_X1_put_L3 (fun σ8 => some σ8) a1 FU σ (24 : Int32))
def f_X1_feed (σ : Mem) (a1 : Int32) (a2 : Int32) (a3 : Int32) (a4 : Int32) (a5 : Int32) : Option (Mem × Int32) :=
 (bnd (f_X1_bytes σ a1) fun x1 =>
bnd (f_X1_bytes σ a2) fun x2 =>
bnd (f_X1_bytes σ a3) fun x3 =>
bnd (f_X1_bytes σ a4) fun x4 =>
bnd (f_X1_bytes σ a5) fun x5 =>
wlet ((((x1 + x2) + x3) + x4) + x5) fun x6 =>
getI σ 0 7 fun x7 =>
if (x7 + x6) ≤ (160 : Int32) then
 (bnd (f_X1_put σ a1) fun σ9 =>
bnd (f_X1_put σ9 a2) fun σ10 =>
bnd (f_X1_put σ10 a3) fun σ11 =>
bnd (f_X1_put σ11 a4) fun σ12 =>
bnd (f_X1_put σ12 a5) fun σ13 =>
getI σ13 0 7 fun x14 =>
some (σ13, x14))
else
 (some (σ, (-1 : Int32))))
def f_X1_end (σ : Mem) (a1 : Int32) : Option (Mem × Int32) :=
 (if a1 < 0 then
 (retZm σ (0 : Int32))
else
 (getI σ 0 7 fun x2 =>
if a1 ≤ x2 then
 (putI σ 0 7 a1 fun σ4 =>
retZm σ4 (1 : Int32))
else
 (retZm σ (0 : Int32))))
def f_X1_isText (σ : Mem) (a1 : Int32) : Option Int32 :=
 (if a1 < 0 then
 (retZ (0 : Int32))
else
 (getI σ 0 8 fun x2 =>
if x2 ≤ a1 then
 (retZ (0 : Int32))
else
 (retZ (1 : Int32))))
def f_X1_rule (σ : Mem) (a1 : Int32) (a2 : Int32) : Option (Mem × Int32) :=
 (bnd (f_X1_isFilter σ a1) fun x1 =>
if x1 = 0 then
 (retZm σ (0 : Int32))
else
 (if a2 = (-1 : Int32) then
 (rdN σ 3 8 a1 fun j5 =>
if a2 = (-1 : Int32) then
 (putR σ j5 16 none fun σ7 =>
retZm σ7 (1 : Int32))
else
 (rdN σ 6 12 a2 fun j9 =>
putR σ j5 16 (some j9) fun σ10 =>
retZm σ10 (1 : Int32)))
else
 (bnd (f_X1_isText σ a2) fun x11 =>
if x11 = 0 then
 (retZm σ (0 : Int32))
else
 (rdN σ 3 8 a1 fun j14 =>
if a2 = (-1 : Int32) then
 (putR σ j14 16 none fun σ16 =>
retZm σ16 (1 : Int32))
else
 (rdN σ 6 12 a2 fun j18 =>
putR σ j14 16 (some j18) fun σ19 =>
retZm σ19 (1 : Int32))))))
def f_X1_stream (σ : Mem) (a1 : Int32) : Option (Mem × Int32) :=
 (bnd (f_X1_isIn σ (a1).toInt64 (1 : Int64) (1000 : Int64)) fun x1 =>
if x1 = 0 then
 (retZm σ (0 : Int32))
else
 (putI σ 0 21 a1 fun σ3 =>
retZm σ3 (1 : Int32)))
def f_X1_come (σ : Mem) (a1 : Int32) (a2 : Int32) : Option (Mem × Int32) :=
 (bnd (f_X1_isSize σ a1) fun x1 =>
if x1 = 0 then
 (retZm σ (0 : Int32))
else
 (bnd (f_X1_isIn σ (a2).toInt64 (0 : Int64) (9999 : Int64)) fun x3 =>
if x3 = 0 then
 (retZm σ (0 : Int32))
else
 (wrI σ 10 8 a1 a2 fun σ6 =>
retZm σ6 (1 : Int32))))
def f_X1_let (σ : Mem) (a1 : Int32) (a2 : Int32) (a3 : Int32) (a4 : Int32) (a5 : Int32) (a6 : Int32) : Option Mem :=
 (wrI σ 7 6 (0 : Int32) a1 fun σ2 =>
wrI σ2 7 6 (1 : Int32) a2 fun σ4 =>
wrI σ4 7 6 (2 : Int32) a3 fun σ6 =>
wrI σ6 7 6 (3 : Int32) a4 fun σ8 =>
wrI σ8 7 6 (4 : Int32) a5 fun σ10 =>
wrI σ10 7 6 (5 : Int32) a6 fun σ12 =>
some σ12)
def f_X1_bound (σ : Mem) (a1 : Int64) : Option Int32 :=
 (some ((lmax (-1000000 : Int64) (lmin (1000000 : Int64) a1))).toInt32)
def f_X16_with (σ : Mem) (i0 : Nat) (a1 : Int64) (a2 : Int64) : Option Int32 :=
 (getI σ i0 0 fun x1 =>
if x1 = (43 : Int32) then
 (bnd (f_X1_bound σ (a1 + a2)) fun x3 =>
some x3)
else
 (getI σ i0 0 fun x4 =>
if x4 = (45 : Int32) then
 (bnd (f_X1_bound σ (a1 - a2)) fun x6 =>
some x6)
else
 (getI σ i0 0 fun x7 =>
if x7 = (42 : Int32) then
 (bnd (f_X1_bound σ (a1 * a2)) fun x9 =>
some x9)
else
 (if a2 = (0 : Int64) then
 (bnd (f_X1_bound σ (0 : Int64)) fun x11 =>
some x11)
else
 (divL a2 <|
bnd (f_X1_bound σ (a1 / a2)) fun x12 =>
some x12)))))
def f_X13_of_b_L14 (rec : Mem → Nat → Nat → Option Int32) (k42 : Int32 → Option Int32) (σ : Mem) (u1 : Nat) : Nat → Int32 → Option Nat → Option Int32
 | 0, _, _ => none
 | n + 1, v2, v3 => (match v3 with
 | none => (k42 v2)
 | some j4 => (getN σ j4 1 fun j5 =>
bnd (rec σ j5 u1) fun x6 =>
bnd (f_X16_with σ j4 (v2).toInt64 (x6).toInt64) fun x7 =>
getR σ j4 2 fun o8 =>
f_X13_of_b_L14 rec k42 σ u1 n x7 o8))
def f_X13_of_b (rec : Mem → Nat → Nat → Option Int32) (σ : Mem) (i0 : Nat) (a1 : Nat) : Option Int32 :=
 (getN σ i0 0 fun j1 =>
bnd (rec σ j1 a1) fun x2 =>
getR σ i0 1 fun o3 =>
f_X13_of_b_L14 rec (fun x9 => some x9) σ a1 FU x2 o3)
def f_X14_of (σ : Mem) (i0 : Nat) (a1 : Nat) : Option Int32 :=
 (getI σ i0 0 fun x1 =>
some x1)
def f_X15_of (σ : Mem) (i0 : Nat) (a1 : Nat) : Option Int32 :=
 (getI σ i0 0 fun x1 =>
rdI σ a1 6 x1 fun x2 =>
some x2)
def f_evS (S : Nat → Nat × Nat) : Nat → Mem → Nat → Nat → Option Int32
 | 0, _, _, _ => none
 | d + 1, σ, j, L => (if S j = (18, 0) then f_X13_of_b (f_evS S d) σ j L else if S j = (19, 0) then f_X14_of σ j L else if S j = (20, 0) then f_X15_of σ j L else none)
def f_X17_holds (σ : Mem) (S : Nat → Nat × Nat) (i0 : Nat) (a1 : Nat) : Option Int32 :=
 (getN σ i0 0 fun j1 =>
bnd (f_evS S 24 σ j1 a1) fun x2 =>
getN σ i0 1 fun j3 =>
bnd (f_evS S 24 σ j3 a1) fun x4 =>
getI σ i0 2 fun x5 =>
if x5 = (61 : Int32) then
 (if x2 = x4 then
 (retZ (1 : Int32))
else
 (retZ (0 : Int32)))
else
 (getI σ i0 2 fun x8 =>
if x8 = (60 : Int32) then
 (if x4 ≤ x2 then
 (retZ (0 : Int32))
else
 (retZ (1 : Int32)))
else
 (if x2 ≤ x4 then
 (retZ (0 : Int32))
else
 (retZ (1 : Int32)))))
def f_X11_holds_b (rec : Mem → Nat → Nat → Option Int32) (σ : Mem) (i0 : Nat) (a1 : Nat) : Option Int32 :=
 (getN σ i0 0 fun j1 =>
bnd (rec σ j1 a1) fun x2 =>
if x2 = 0 then
 (retZ (1 : Int32))
else
 (retZ (0 : Int32)))
def f_X10_holds_b_L2 (rec : Mem → Nat → Nat → Option Int32) (k23 : Option Int32) (k44 : Option Int32) (σ : Mem) (u0 : Nat) (u1 : Nat) : Nat → Option Nat → Option Int32
 | 0, _ => none
 | n + 1, v2 => (match v2 with
 | none => (k44)
 | some j1 => (getN σ j1 1 fun j2 =>
bnd (rec σ j2 u1) fun x3 =>
getI σ u0 0 fun x4 =>
if x3 = x4 then
 (getR σ j1 2 fun o6 =>
f_X10_holds_b_L2 rec k23 k44 σ u0 u1 n o6)
else
 (k23)))
def f_X10_holds_b (rec : Mem → Nat → Nat → Option Int32) (σ : Mem) (i0 : Nat) (a1 : Nat) : Option Int32 :=
 (f_X10_holds_b_L2 rec (getI σ i0 0 fun x7 =>
if x7 = 0 then
 (retZ (1 : Int32))
else
 (retZ (0 : Int32))) (getI σ i0 0 fun x9 =>
retZ x9) σ i0 a1 FU (some i0))
def f_evC (S : Nat → Nat × Nat) : Nat → Mem → Nat → Nat → Option Int32
 | 0, _, _, _ => none
 | d + 1, σ, j, L => (if S j = (22, 0) then f_X17_holds σ S j L else if S j = (17, 0) then f_X11_holds_b (f_evC S d) σ j L else if S j = (16, 0) then f_X10_holds_b (f_evC S d) σ j L else none)
def f_X18_worth_L2 (S : Nat → Nat × Nat) (k34 : Nat → Option Int32) (k51 : Option Int32) (σ : Mem) (u1 : Int32) (u2 : Nat) : Nat → Option Nat → Option Int32
 | 0, _ => none
 | n + 1, v3 => (match v3 with
 | none => (k51)
 | some j1 => (getI σ j1 0 fun x2 =>
if x2 = u1 then
 (getR σ j1 1 fun o4 =>
match o4 with
 | none => (k34 j1)
 | some j5 => (getN σ j1 1 fun j6 =>
bnd (f_evC S 24 σ j6 u2) fun x7 =>
if x7 = 0 then
 (getR σ j1 3 fun o9 =>
f_X18_worth_L2 S k34 k51 σ u1 u2 n o9)
else
 (k34 j1)))
else
 (getR σ j1 3 fun o10 =>
f_X18_worth_L2 S k34 k51 σ u1 u2 n o10)))
def f_X18_worth (σ : Mem) (S : Nat → Nat × Nat) (i0 : Nat) (a1 : Int32) (a2 : Nat) : Option Int32 :=
 (f_X18_worth_L2 S (fun j11 => getN σ j11 2 fun j12 =>
bnd (f_evS S 24 σ j12 a2) fun x13 =>
some x13) (some (0 : Int32)) σ a1 a2 FU (some i0))
def f_X4_empties_L2 (k33 : Mem → Option Mem) (u0 : Nat) (u1 : Nat) : Nat → Mem → Int32 → Option Mem
 | 0, _, _ => none
 | n + 1, σ, v2 => (if (8 : Int32) ≤ v2 then
 (k33 σ)
else
 (rdI σ u1 8 v2 fun x2 =>
rdI σ (u0 + 1) 8 v2 fun x4 =>
wrI σ u1 8 v2 (x2 + x4) fun σ5 =>
wrI σ5 (u0 + 1) 8 v2 (0 : Int32) fun σ7 =>
f_X4_empties_L2 k33 u0 u1 n σ7 (v2 + (1 : Int32))))
def f_X4_empties (σ : Mem) (i0 : Nat) (a1 : Nat) : Option Mem :=
 (f_X4_empties_L2 (fun σ8 => some σ8) i0 a1 FU σ (0 : Int32))
def f_X7_empties_L7 (k26 : Mem → Option Mem) (u0 : Nat) : Nat → Mem → Int32 → Option Mem
 | 0, _, _ => none
 | n + 1, σ, v2 => (if (8 : Int32) ≤ v2 then
 (k26 σ)
else
 (wrI σ (u0 + 2) 8 v2 (0 : Int32) fun σ4 =>
f_X7_empties_L7 k26 u0 n σ4 (v2 + (1 : Int32))))
def f_X7_empties (σ : Mem) (i0 : Nat) (a1 : Nat) : Option Mem :=
 (bnd (f_X4_empties σ i0 a1) fun σ1 =>
f_X7_empties_L7 (fun σ5 => getI σ5 i0 1 fun x6 =>
putI σ5 i0 4 x6 fun σ7 =>
some σ7) i0 FU σ1 (0 : Int32))
def f_X3_change_L10 (k34 : Mem → Option Mem) (u0 : Nat) (u1 : Nat) : Nat → Mem → Int32 → Option Mem
 | 0, _, _ => none
 | n + 1, σ, v2 => (getI σ u0 5 fun x3 =>
if x3 ≤ v2 then
 (k34 σ)
else
 (rdN σ (u0 + 1) 10 v2 fun j6 =>
bnd (f_X7_empties σ j6 u1) fun σ7 =>
f_X3_change_L10 k34 u0 u1 n σ7 (v2 + (1 : Int32))))
def f_X3_change (σ : Mem) (i0 : Nat) (a1 : Nat) : Option Mem :=
 (bnd (f_X4_empties σ (i0 + 2) a1) fun σ2 =>
f_X3_change_L10 (fun σ8 => putI σ8 i0 8 (0 : Int32) fun σ9 =>
putI σ9 i0 7 (0 : Int32) fun σ10 =>
some σ10) i0 a1 FU σ2 (0 : Int32))
def f_X1_decides (σ : Mem) (S : Nat → Nat × Nat) (a1 : Int32) : Option Mem :=
 (rdN σ 3 8 a1 fun j2 =>
getI σ j2 10 fun x3 =>
getI σ j2 7 fun x4 =>
getI σ j2 11 fun x5 =>
getI σ j2 8 fun x6 =>
bnd (f_X19_all σ (j2 + 2)) fun x8 =>
bnd (f_X1_let σ x3 x4 x5 a1 x6 x8) fun σ9 =>
getN σ9 j2 16 fun j11 =>
bnd (f_X18_worth σ9 S j11 (117 : Int32) 7) fun x13 =>
wrI σ9 19 8 a1 (imax (0 : Int32) (imin (1000 : Int32) x13)) fun σ14 =>
getN σ14 j2 16 fun j15 =>
bnd (f_X18_worth σ14 S j15 (99 : Int32) 7) fun x17 =>
if x17 = 0 then
 (getN σ14 j2 16 fun j19 =>
bnd (f_X18_worth σ14 S j19 (119 : Int32) 7) fun x21 =>
if x21 = 0 then
 (getN σ14 j2 16 fun j23 =>
bnd (f_X18_worth σ14 S j23 (114 : Int32) 7) fun x25 =>
if x25 = 0 then
 (some σ14)
else
 (putI σ14 j2 6 (3 : Int32) fun σ27 =>
some σ27))
else
 (getI σ14 j2 8 fun x28 =>
rdI σ14 (j2 + 4) 3 (2 : Int32) fun x30 =>
if x28 < x30 then
 (putI σ14 j2 6 (2 : Int32) fun σ32 =>
some σ32)
else
 (putI σ14 j2 6 (5 : Int32) fun σ33 =>
some σ33)))
else
 (bnd (f_X3_change σ14 j2 14) fun σ35 =>
some σ35))
def f_X1_begins (σ : Mem) (S : Nat → Nat × Nat) (a1 : Int32) : Option Mem :=
 (rdN σ 3 8 a1 fun j2 =>
getI σ j2 5 fun x3 =>
if x3 = 0 then
 (some σ)
else
 (getI σ j2 6 fun x5 =>
if x5 = (4 : Int32) then
 (some σ)
else
 (getI σ j2 6 fun x7 =>
if x7 = (5 : Int32) then
 (some σ)
else
 (putI σ j2 6 (1 : Int32) fun σ9 =>
getR σ9 j2 16 fun o10 =>
bnd (match o10 with
 | none => (some σ9)
 | some j11 => (bnd (f_X1_decides σ9 S a1) fun σ21 =>
some σ21)) fun σ12 =>
getI σ12 j2 15 fun x14 =>
if x14 = 0 then
 (getI σ12 j2 6 fun x16 =>
if x16 = (1 : Int32) then
 (putZ σ12 j2 15 (1 : Int32) fun σ18 =>
some σ18)
else
 (putZ σ12 j2 15 (0 : Int32) fun σ19 =>
some σ19))
else
 (putZ σ12 j2 15 (1 : Int32) fun σ20 =>
some σ20)))))
def f_X7_wash_L3 (k107 : Mem → Option Mem) (u0 : Nat) (u1 : Nat) (u2 : Int32) (u3 : Nat) : Nat → Mem → Int32 → Option Mem
 | 0, _, _ => none
 | n + 1, σ, v4 => (if (8 : Int32) ≤ v4 then
 (k107 σ)
else
 (rdI σ (u0 + 1) 8 v4 fun x3 =>
rdI σ (u0 + 2) 8 v4 fun x5 =>
wlet (x3 - x5) fun x6 =>
rdI σ (u1 + 3) 8 v4 fun x8 =>
divI (1000 : Int32) <|
wlet ((x6 * x8) / (1000 : Int32)) fun x9 =>
rdI σ (u0 + 2) 8 v4 fun x11 =>
wrI σ (u0 + 2) 8 v4 (x11 + x9) fun σ12 =>
rdI σ12 (u1 + 2) 8 v4 fun x14 =>
divI (1000 : Int32) <|
divI (1000 : Int32) <|
wlet (((((x6 - x9) * x14) / (1000 : Int32)) * u2) / (1000 : Int32)) fun x15 =>
rdI σ12 (u0 + 1) 8 v4 fun x17 =>
wrI σ12 (u0 + 1) 8 v4 (x17 - x15) fun σ18 =>
rdI σ18 u3 8 v4 fun x19 =>
wrI σ18 u3 8 v4 (x19 + x15) fun σ20 =>
f_X7_wash_L3 k107 u0 u1 u2 u3 n σ20 (v4 + (1 : Int32))))
def f_X7_wash (σ : Mem) (i0 : Nat) (a1 : Nat) (a2 : Int32) (a3 : Nat) : Option Mem :=
 (f_X7_wash_L3 (fun σ21 => some σ21) i0 a1 a2 a3 FU σ (0 : Int32))
def f_X3_wash_L3 (k68 : Mem → Option Mem) (u0 : Nat) (u1 : Nat) (u2 : Int32) (u3 : Nat) : Nat → Mem → Int32 → Option Mem
 | 0, _, _ => none
 | n + 1, σ, v4 => (getI σ u0 5 fun x1 =>
if x1 ≤ v4 then
 (k68 σ)
else
 (rdN σ (u0 + 1) 10 v4 fun j4 =>
bnd (f_X7_wash σ j4 u1 u2 u3) fun σ5 =>
rdI σ5 (u0 + 4) 3 (1 : Int32) fun x7 =>
if u2 ≤ x7 then
 (f_X3_wash_L3 k68 u0 u1 u2 u3 n σ5 (v4 + (1 : Int32)))
else
 (rdN σ5 (u0 + 1) 10 v4 fun j10 =>
rdN σ5 (u0 + 1) 10 v4 fun j12 =>
getI σ5 j12 4 fun x13 =>
putI σ5 j10 4 (imin (20 : Int32) (x13 + (1 : Int32))) fun σ14 =>
f_X3_wash_L3 k68 u0 u1 u2 u3 n σ14 (v4 + (1 : Int32)))))
def f_X3_wash (σ : Mem) (i0 : Nat) (a1 : Nat) (a2 : Int32) (a3 : Nat) : Option Mem :=
 (f_X3_wash_L3 (fun σ15 => bnd (f_X4_empties σ15 (i0 + 2) a3) fun σ17 =>
getI σ17 i0 8 fun x18 =>
putI σ17 i0 8 (x18 + (1 : Int32)) fun σ19 =>
putI σ19 i0 7 (0 : Int32) fun σ20 =>
some σ20) i0 a1 a2 a3 FU σ (0 : Int32))
def f_X1_parts_L4 (k83 : Mem → Int64 → Option Mem) : Nat → Mem → Int64 → Int32 → Option Mem
 | 0, _, _, _ => none
 | n + 1, σ, v1, v3 => (getI σ 0 3 fun x1 =>
if x1 ≤ v3 then
 (k83 σ v1)
else
 (rdN σ 3 8 v3 fun j4 =>
getI σ j4 6 fun x5 =>
bnd (if x5 = (1 : Int32) then
 (bnd (f_X3_isOpen σ j4) fun x12 =>
if x12 = 0 then
 (some (0 : Int32))
else
 (bnd (f_X3_bed σ j4) fun x14 =>
bnd (f_X19_all σ (j4 + 2)) fun x16 =>
divI (imax (1 : Int32) (x14 + x16)) <|
some ((1000000 : Int32) / (imax (1 : Int32) (x14 + x16)))))
else
 (some (0 : Int32))) fun x7 =>
putI σ j4 14 x7 fun σ9 =>
getI σ9 j4 14 fun x10 =>
wlet (v1 + (x10).toInt64) fun y11 =>
f_X1_parts_L4 k83 n σ9 y11 (v3 + (1 : Int32))))
def f_X1_parts_L91 (k155 : Mem → Int32 → Option Mem) (u1 : Int64) : Nat → Mem → Int32 → Int32 → Option Mem
 | 0, _, _, _ => none
 | n + 1, σ, v3, v4 => (getI σ 0 3 fun x20 =>
if x20 ≤ v4 then
 (k155 σ v3)
else
 (if u1 ≤ (0 : Int64) then
 (k155 σ v3)
else
 (rdN σ 3 8 v4 fun j24 =>
getI σ 0 21 fun x25 =>
rdN σ 3 8 v4 fun j27 =>
getI σ j27 14 fun x28 =>
divL u1 <|
putI σ j24 9 ((((x25).toInt64 * (x28).toInt64) / u1)).toInt32 fun σ29 =>
rdN σ29 3 8 v4 fun j31 =>
getI σ29 j31 9 fun x32 =>
wlet (v3 - x32) fun x33 =>
f_X1_parts_L91 k155 u1 n σ29 x33 (v4 + (1 : Int32)))))
def f_X1_parts_L158 (k212 : Mem → Option Mem) : Nat → Mem → Int32 → Int32 → Option Mem
 | 0, _, _, _ => none
 | n + 1, σ, v3, v4 => (getI σ 0 3 fun x36 =>
if x36 ≤ v4 then
 (k212 σ)
else
 (if v3 ≤ 0 then
 (k212 σ)
else
 (rdN σ 3 8 v4 fun j40 =>
getI σ j40 14 fun x41 =>
if x41 = 0 then
 (f_X1_parts_L158 k212 n σ v3 (v4 + (1 : Int32)))
else
 (rdN σ 3 8 v4 fun j44 =>
getI σ j44 9 fun x45 =>
putI σ j44 9 (x45 + (1 : Int32)) fun σ46 =>
f_X1_parts_L158 k212 n σ46 (v3 + (-1 : Int32)) (v4 + (1 : Int32))))))
def f_X1_parts (σ : Mem) : Option Mem :=
 (f_X1_parts_L4 (fun σ17 y18 => getI σ17 0 21 fun x19 =>
f_X1_parts_L91 (fun σ34 x35 => f_X1_parts_L158 (fun σ47 => some σ47) FU σ34 x35 (0 : Int32)) y18 FU σ17 x19 (0 : Int32)) FU σ (0 : Int64) (0 : Int32))
def f_X2_share (σ : Mem) (i0 : Nat) (a1 : Int32) (a2 : Int32) : Option Int32 :=
 (if a1 < a2 then
 (rdI σ (i0 + 1) 8 a1 fun x3 =>
divI (a2 - a1) <|
some (x3 / (a2 - a1)))
else
 (some (1000 : Int32)))
def f_X7_holds (σ : Mem) (i0 : Nat) (a1 : Nat) (a2 : Int32) (a3 : Int32) (a4 : Int32) : Option (Mem × Int32) :=
 (bnd (f_X2_share σ a1 a2 a4) fun x1 =>
divL (1000 : Int64) <|
wlet ((((a3).toInt64 * (x1).toInt64) / (1000 : Int64))).toInt32 fun x2 =>
rdI σ (i0 + 1) 8 a2 fun x4 =>
wrI σ (i0 + 1) 8 a2 (x4 + x2) fun σ5 =>
some (σ5, x2))
def f_X3_pass_L7 (k36 : Mem → Option Mem) (u0 : Nat) (u1 : Nat) (u2 : Nat) : Nat → Mem → Int32 → Option Mem
 | 0, _, _ => none
 | n + 1, σ, v3 => (getI σ u0 5 fun x2 =>
if x2 ≤ v3 then
 (k36 σ)
else
 (rdN σ (u0 + 1) 10 v3 fun j6 =>
bnd (f_X7_width σ j6) fun x7 =>
wrI σ (u0 + 6) 10 v3 x7 fun σ8 =>
f_X3_pass_L7 k36 u0 u1 u2 n σ8 (v3 + (1 : Int32))))
def f_X3_pass_L82 (k123 : Mem → Int32 → Option Mem) (u0 : Nat) (u1 : Nat) (u2 : Nat) (u3 : Int32) : Nat → Mem → Int32 → Int32 → Option Mem
 | 0, _, _, _ => none
 | n + 1, σ, v4, v5 => (getI σ u0 5 fun x16 =>
if x16 ≤ v5 then
 (k123 σ v4)
else
 (rdN σ (u0 + 1) 10 v5 fun j19 =>
rdI σ (u0 + 6) 10 v5 fun x21 =>
bnd2 (f_X7_holds σ j19 u1 u3 v4 x21) fun σ22 x23 =>
wlet (v4 - x23) fun x24 =>
f_X3_pass_L82 k123 u0 u1 u2 u3 n σ22 x24 (v5 + (1 : Int32))))
def f_X3_pass_L38 (k148 : Mem → Option Mem) (u0 : Nat) (u1 : Nat) (u2 : Nat) : Nat → Mem → Int32 → Option Mem
 | 0, _, _ => none
 | n + 1, σ, v3 => (if (8 : Int32) ≤ v3 then
 (k148 σ)
else
 (rdI σ (u0 + 5) 8 v3 fun x12 =>
rdI σ (u0 + 6) 10 (0 : Int32) fun x14 =>
if v3 < x14 then
 (f_X3_pass_L82 (fun σ25 x26 => rdI σ25 u2 8 v3 fun x27 =>
wrI σ25 u2 8 v3 (x27 + x26) fun σ28 =>
getI σ28 u0 11 fun x29 =>
putI σ28 u0 11 (x29 + x26) fun σ30 =>
f_X3_pass_L38 k148 u0 u1 u2 n σ30 (v3 + (1 : Int32))) u0 u1 u2 v3 FU σ x12 (0 : Int32))
else
 (rdI σ ((u0 + 2) + 1) 8 v3 fun x33 =>
wrI σ ((u0 + 2) + 1) 8 v3 (x33 + x12) fun σ34 =>
f_X3_pass_L38 k148 u0 u1 u2 n σ34 (v3 + (1 : Int32)))))
def f_X3_pass (σ : Mem) (i0 : Nat) (a1 : Nat) (a2 : Nat) : Option Mem :=
 (putI σ i0 11 (0 : Int32) fun σ1 =>
f_X3_pass_L7 (fun σ9 => f_X3_pass_L38 (fun σ35 => some σ35) i0 a1 a2 FU σ9 (0 : Int32)) i0 a1 a2 FU σ1 (0 : Int32))
def f_X3_comes_L4 (k25 : Int32 → Option Int32) (σ : Mem) (u0 : Nat) : Nat → Int32 → Int32 → Option Int32
 | 0, _, _ => none
 | n + 1, v1, v2 => (if (8 : Int32) ≤ v2 then
 (k25 v1)
else
 (rdI σ (u0 + 5) 8 v2 fun x3 =>
wlet (v1 + x3) fun x4 =>
f_X3_comes_L4 k25 σ u0 n x4 (v2 + (1 : Int32))))
def f_X3_comes (σ : Mem) (i0 : Nat) : Option Int32 :=
 (f_X3_comes_L4 (fun x5 => some x5) σ i0 FU (0 : Int32) (0 : Int32))
def f_X1_goes_L21 (k48 : Mem → Option Mem) (u1 : Nat) : Nat → Mem → Int32 → Option Mem
 | 0, _, _ => none
 | n + 1, σ, v3 => (if (8 : Int32) ≤ v3 then
 (k48 σ)
else
 (rdI σ 18 8 v3 fun x7 =>
rdI σ (u1 + 5) 8 v3 fun x9 =>
wrI σ 18 8 v3 (x7 + x9) fun σ10 =>
f_X1_goes_L21 k48 u1 n σ10 (v3 + (1 : Int32))))
def f_X1_goes (σ : Mem) (a1 : Nat) : Option Mem :=
 (getI σ a1 9 fun x1 =>
bnd (f_X3_pushWith σ a1 x1) fun x2 =>
if x2 = (-1 : Int32) then
 (putI σ a1 6 (4 : Int32) fun σ4 =>
f_X1_goes_L21 (fun σ11 => some σ11) a1 FU σ4 (0 : Int32))
else
 (putI σ a1 10 x2 fun σ12 =>
bnd (f_X3_pass σ12 a1 100 17) fun σ15 =>
bnd (f_X3_comes σ15 a1) fun x16 =>
if x16 = 0 then
 (some σ15)
else
 (getI σ15 a1 12 fun x18 =>
if x18 = (-1 : Int32) then
 (getI σ15 0 0 fun x20 =>
putI σ15 a1 12 x20 fun σ21 =>
getI σ21 a1 11 fun x22 =>
putI σ21 a1 13 x22 fun σ23 =>
some σ23)
else
 (getI σ15 a1 11 fun x24 =>
getI σ15 a1 13 fun x25 =>
if x24 < x25 then
 (getI σ15 0 0 fun x27 =>
putI σ15 a1 12 x27 fun σ28 =>
getI σ28 a1 11 fun x29 =>
putI σ28 a1 13 x29 fun σ30 =>
some σ30)
else
 (some σ15)))))
def f_X1_runs_L21 (k85 : Mem → Int32 → Option Mem) (u1 : Int32) : Nat → Mem → Int32 → Int32 → Option Mem
 | 0, _, _, _ => none
 | n + 1, σ, v2, v3 => (getI σ 0 3 fun x5 =>
if x5 ≤ v3 then
 (k85 σ v2)
else
 (rdN σ 3 8 v3 fun j8 =>
rdI σ 10 8 u1 fun x11 =>
rdN σ 3 8 v3 fun j13 =>
getI σ j13 9 fun x14 =>
getI σ 0 21 fun x15 =>
divL (x15).toInt64 <|
wrI σ (j8 + 5) 8 u1 ((((x11).toInt64 * (x14).toInt64) / (x15).toInt64)).toInt32 fun σ16 =>
rdN σ16 3 8 v3 fun j18 =>
rdI σ16 (j18 + 5) 8 u1 fun x20 =>
wlet (v2 - x20) fun x21 =>
f_X1_runs_L21 k85 u1 n σ16 x21 (v3 + (1 : Int32))))
def f_X1_runs_L87 (k138 : Mem → Int32 → Option Mem) (u1 : Int32) : Nat → Mem → Int32 → Int32 → Option Mem
 | 0, _, _, _ => none
 | n + 1, σ, v2, v3 => (getI σ 0 3 fun x24 =>
if x24 ≤ v3 then
 (k138 σ v2)
else
 (if v2 ≤ 0 then
 (k138 σ v2)
else
 (rdN σ 3 8 v3 fun j28 =>
getI σ j28 9 fun x29 =>
if x29 = 0 then
 (f_X1_runs_L87 k138 u1 n σ v2 (v3 + (1 : Int32)))
else
 (rdN σ 3 8 v3 fun j32 =>
rdI σ (j32 + 5) 8 u1 fun x34 =>
wrI σ (j32 + 5) 8 u1 (x34 + (1 : Int32)) fun σ35 =>
f_X1_runs_L87 k138 u1 n σ35 (v2 + (-1 : Int32)) (v3 + (1 : Int32))))))
def f_X1_runs_L6 (k154 : Mem → Option Mem) : Nat → Mem → Int32 → Option Mem
 | 0, _, _ => none
 | n + 1, σ, v1 => (if (8 : Int32) ≤ v1 then
 (k154 σ)
else
 (rdI σ 10 8 v1 fun x4 =>
f_X1_runs_L21 (fun σ22 x23 => f_X1_runs_L87 (fun σ36 x37 => rdI σ36 18 8 v1 fun x39 =>
wrI σ36 18 8 v1 (x39 + x37) fun σ40 =>
f_X1_runs_L6 k154 n σ40 (v1 + (1 : Int32))) v1 FU σ22 x23 (0 : Int32)) v1 FU σ x4 (0 : Int32)))
def f_X1_runs_L156 (k192 : Mem → Option Mem) : Nat → Mem → Int32 → Option Mem
 | 0, _, _ => none
 | n + 1, σ, v1 => (getI σ 0 3 fun x42 =>
if x42 ≤ v1 then
 (k192 σ)
else
 (rdN σ 3 8 v1 fun j45 =>
getI σ j45 9 fun x46 =>
if x46 ≤ 0 then
 (f_X1_runs_L156 k192 n σ (v1 + (1 : Int32)))
else
 (rdN σ 3 8 v1 fun j49 =>
bnd (f_X1_goes σ j49) fun σ50 =>
f_X1_runs_L156 k192 n σ50 (v1 + (1 : Int32)))))
def f_X1_runs_L194 (k267 : Mem → Option Mem) : Nat → Mem → Int32 → Option Mem
 | 0, _, _ => none
 | n + 1, σ, v1 => (getI σ 0 3 fun x52 =>
if x52 ≤ v1 then
 (k267 σ)
else
 (rdN σ 3 8 v1 fun j55 =>
getI σ j55 6 fun x56 =>
if x56 = (1 : Int32) then
 (rdN σ 3 8 v1 fun j59 =>
bnd (f_X3_isOpen σ j59) fun x60 =>
if x60 = 0 then
 (rdN σ 3 8 v1 fun j63 =>
getI σ j63 14 fun x64 =>
if x64 = 0 then
 (rdN σ 3 8 v1 fun j67 =>
getI σ j67 9 fun x68 =>
if x68 = 0 then
 (rdN σ 3 8 v1 fun j71 =>
putI σ j71 6 (4 : Int32) fun σ72 =>
f_X1_runs_L194 k267 n σ72 (v1 + (1 : Int32)))
else
 (f_X1_runs_L194 k267 n σ (v1 + (1 : Int32))))
else
 (f_X1_runs_L194 k267 n σ (v1 + (1 : Int32))))
else
 (f_X1_runs_L194 k267 n σ (v1 + (1 : Int32))))
else
 (f_X1_runs_L194 k267 n σ (v1 + (1 : Int32)))))
def f_X1_runs (σ : Mem) : Option Mem :=
 (bnd (f_X1_parts σ) fun σ1 =>
f_X1_runs_L6 (fun σ41 => f_X1_runs_L156 (fun σ51 => f_X1_runs_L194 (fun σ73 => some σ73) FU σ51 (0 : Int32)) FU σ41 (0 : Int32)) FU σ1 (0 : Int32))
def f_X1_hour_L12 (S : Nat → Nat × Nat) (k31 : Mem → Option Mem) : Nat → Mem → Int32 → Option Mem
 | 0, _, _ => none
 | n + 1, σ, v1 => (getI σ 0 3 fun x3 =>
if x3 ≤ v1 then
 (k31 σ)
else
 (bnd (f_X1_begins σ S v1) fun σ5 =>
f_X1_hour_L12 S k31 n σ5 (v1 + (1 : Int32))))
def f_X1_hour_L33 (S : Nat → Nat × Nat) (k83 : Mem → Option Mem) : Nat → Mem → Int32 → Option Mem
 | 0, _, _ => none
 | n + 1, σ, v1 => (getI σ 0 3 fun x7 =>
if x7 ≤ v1 then
 (k83 σ)
else
 (rdN σ 3 8 v1 fun j10 =>
getI σ j10 6 fun x11 =>
if x11 = (2 : Int32) then
 (rdN σ 3 8 v1 fun j14 =>
rdI σ 19 8 v1 fun x17 =>
bnd (f_X3_wash σ j14 100 x17 13) fun σ19 =>
f_X1_hour_L33 S k83 n σ19 (v1 + (1 : Int32)))
else
 (f_X1_hour_L33 S k83 n σ (v1 + (1 : Int32)))))
def f_X1_hour_L85 (S : Nat → Nat × Nat) (k153 : Mem → Option Mem) : Nat → Mem → Int32 → Option Mem
 | 0, _, _ => none
 | n + 1, σ, v1 => (getI σ 0 3 fun x21 =>
if x21 ≤ v1 then
 (k153 σ)
else
 (rdN σ 3 8 v1 fun j25 =>
getI σ j25 6 fun x26 =>
bnd (if x26 = (1 : Int32) then
 (some (1 : Int32))
else
 (some (0 : Int32))) fun x28 =>
wrI σ 20 8 v1 x28 fun σ30 =>
rdN σ30 3 8 v1 fun j32 =>
putI σ30 j32 9 (0 : Int32) fun σ33 =>
rdN σ33 3 8 v1 fun j35 =>
putI σ33 j35 10 (0 : Int32) fun σ36 =>
rdN σ36 3 8 v1 fun j38 =>
putI σ36 j38 11 (0 : Int32) fun σ39 =>
f_X1_hour_L85 S k153 n σ39 (v1 + (1 : Int32))))
def f_X1_hour_L155 (S : Nat → Nat × Nat) (k181 : Mem → Option Mem) : Nat → Mem → Int32 → Option Mem
 | 0, _, _ => none
 | n + 1, σ, v1 => (if (8 : Int32) ≤ v1 then
 (k181 σ)
else
 (wrI σ 17 8 v1 (0 : Int32) fun σ43 =>
wrI σ43 18 8 v1 (0 : Int32) fun σ45 =>
f_X1_hour_L155 S k181 n σ45 (v1 + (1 : Int32))))
def f_X1_hour_L194 (S : Nat → Nat × Nat) (k250 : Mem → Option Mem) : Nat → Mem → Int32 → Option Mem
 | 0, _, _ => none
 | n + 1, σ, v1 => (getI σ 0 3 fun x51 =>
if x51 ≤ v1 then
 (k250 σ)
else
 (rdN σ 3 8 v1 fun j54 =>
getI σ j54 7 fun x55 =>
rdI σ 20 8 v1 fun x57 =>
bnd (if x57 = (1 : Int32) then
 (some (1 : Int32))
else
 (rdN σ 3 8 v1 fun j63 =>
getI σ j63 6 fun x64 =>
if x64 = (3 : Int32) then
 (some (1 : Int32))
else
 (some (0 : Int32)))) fun x59 =>
putI σ j54 7 (x55 + x59) fun σ61 =>
f_X1_hour_L194 S k250 n σ61 (v1 + (1 : Int32))))
def f_X1_hour_L252 (S : Nat → Nat × Nat) (k372 : Mem → Option Mem) : Nat → Mem → Int32 → Option Mem
 | 0, _, _ => none
 | n + 1, σ, v1 => (if (8 : Int32) ≤ v1 then
 (k372 σ)
else
 (getI σ 0 0 fun x68 =>
wlet ((3 : Int32) * (((8 : Int32) * x68) + v1)) fun x69 =>
getI σ 0 21 fun x71 =>
bnd (if x71 ≤ 0 then
 (some (0 : Int32))
else
 (rdI σ 10 8 v1 fun x100 =>
some x100)) fun x73 =>
wrI σ 21 48024 x69 x73 fun σ75 =>
rdI σ75 17 8 v1 fun x78 =>
wrI σ75 21 48024 (x69 + (1 : Int32)) x78 fun σ79 =>
rdI σ79 18 8 v1 fun x82 =>
wrI σ79 21 48024 (x69 + (2 : Int32)) x82 fun σ83 =>
rdI σ83 12 8 v1 fun x85 =>
rdI σ83 21 48024 x69 fun x87 =>
wrI σ83 12 8 v1 (x85 + x87) fun σ88 =>
rdI σ88 15 8 v1 fun x90 =>
rdI σ88 17 8 v1 fun x92 =>
wrI σ88 15 8 v1 (x90 + x92) fun σ93 =>
rdI σ93 16 8 v1 fun x95 =>
rdI σ93 18 8 v1 fun x97 =>
wrI σ93 16 8 v1 (x95 + x97) fun σ98 =>
f_X1_hour_L252 S k372 n σ98 (v1 + (1 : Int32))))
def f_X1_hour (σ : Mem) (S : Nat → Nat × Nat) : Option Mem :=
 (getI σ 0 0 fun x1 =>
putI σ 0 0 (x1 + (1 : Int32)) fun σ2 =>
f_X1_hour_L12 S (fun σ6 => f_X1_hour_L33 S (fun σ20 => f_X1_hour_L85 S (fun σ40 => f_X1_hour_L155 S (fun σ46 => getI σ46 0 21 fun x47 =>
bnd (if x47 ≤ 0 then
 (some σ46)
else
 (bnd (f_X1_runs σ46) fun σ102 =>
some σ102)) fun σ49 =>
f_X1_hour_L194 S (fun σ66 => f_X1_hour_L252 S (fun σ101 => some σ101) FU σ66 (0 : Int32)) FU σ49 (0 : Int32)) FU σ40 (0 : Int32)) FU σ20 (0 : Int32)) FU σ6 (0 : Int32)) FU σ2 (0 : Int32))
def f_X1_hours_L28 (S : Nat → Nat × Nat) (k43 : Mem → Option (Mem × Int32)) (u1 : Int32) : Nat → Mem → Int32 → Option (Mem × Int32)
 | 0, _, _ => none
 | n + 1, σ, v2 => (if u1 ≤ v2 then
 (k43 σ)
else
 (bnd (f_X1_hour σ S) fun σ6 =>
f_X1_hours_L28 S k43 u1 n σ6 (v2 + (1 : Int32))))
def f_X1_hours (σ : Mem) (S : Nat → Nat × Nat) (a1 : Int32) : Option (Mem × Int32) :=
 (bnd (f_X1_isIn σ (a1).toInt64 (0 : Int64) (200 : Int64)) fun x1 =>
if x1 = 0 then
 (some (σ, (-1 : Int32)))
else
 (getI σ 0 0 fun x3 =>
if (x3 + a1) ≤ (2000 : Int32) then
 (f_X1_hours_L28 S (fun σ7 => getI σ7 0 0 fun x8 =>
some (σ7, x8)) a1 FU σ (0 : Int32))
else
 (some (σ, (-1 : Int32)))))
def f_X1_hand (σ : Mem) (a1 : Int32) (a2 : Int32) : Option (Mem × Int32) :=
 (bnd (f_X1_isFilter σ a1) fun x1 =>
if x1 = 0 then
 (retZm σ (0 : Int32))
else
 (bnd (f_X1_isIn σ (a2).toInt64 (0 : Int64) (2 : Int64)) fun x3 =>
if x3 = 0 then
 (retZm σ (0 : Int32))
else
 (rdN σ 3 8 a1 fun j6 =>
if a2 ≤ 0 then
 (bnd (if a2 = 0 then
 (bnd (f_X3_change σ j6 14) fun σ15 =>
some σ15)
else
 (some σ)) fun σ9 =>
if a2 = (1 : Int32) then
 (putI σ9 j6 6 (4 : Int32) fun σ12 =>
retZm σ12 (1 : Int32))
else
 (putI σ9 j6 6 (0 : Int32) fun σ13 =>
retZm σ13 (1 : Int32)))
else
 (getI σ j6 6 fun x16 =>
bnd (if x16 = (4 : Int32) then
 (some (1 : Int32))
else
 (some (0 : Int32))) fun x18 =>
bnd (if a2 = (1 : Int32) then
 (some (1 : Int32))
else
 (some (0 : Int32))) fun x21 =>
if x18 = x21 then
 (retZm σ (0 : Int32))
else
 (bnd (if a2 = 0 then
 (bnd (f_X3_change σ j6 14) fun σ31 =>
some σ31)
else
 (some σ)) fun σ25 =>
if a2 = (1 : Int32) then
 (putI σ25 j6 6 (4 : Int32) fun σ28 =>
retZm σ28 (1 : Int32))
else
 (putI σ25 j6 6 (0 : Int32) fun σ29 =>
retZm σ29 (1 : Int32)))))))
def f_X1_history (σ : Mem) (a1 : Int32) (a2 : Int32) (a3 : Int32) : Option Int32 :=
 (getI σ 0 0 fun x1 =>
bnd (f_X1_isIn σ (a1).toInt64 (1 : Int64) (x1).toInt64) fun x2 =>
if x2 = 0 then
 (some (-1 : Int32))
else
 (bnd (f_X1_isSize σ a2) fun x4 =>
if x4 = 0 then
 (some (-1 : Int32))
else
 (bnd (f_X1_isIn σ (a3).toInt64 (0 : Int64) (2 : Int64)) fun x6 =>
if x6 = 0 then
 (some (-1 : Int32))
else
 (rdI σ 21 48024 (((3 : Int32) * (((8 : Int32) * a1) + a2)) + a3) fun x9 =>
some x9))))
def f_X1_breaks_L29 (k64 : Int32 → Option Int32) (σ : Mem) (u1 : Int32) (u2 : Int32) (u3 : Int32) : Nat → Int32 → Int32 → Option Int32
 | 0, _, _ => none
 | n + 1, v4, v5 => (if (8 : Int32) ≤ v5 then
 (k64 v4)
else
 (bnd (f_X1_history σ u3 v5 (1 : Int32)) fun x7 =>
bnd (f_X1_history σ u3 v5 (2 : Int32)) fun x8 =>
wlet (v4 + (x7 + x8)) fun x9 =>
f_X1_breaks_L29 k64 σ u1 u2 u3 n x9 (v5 + (1 : Int32))))
def f_X1_breaks_L15 (k70 : Int32 → Option Int32) (k78 : Option Int32) (σ : Mem) (u1 : Int32) (u2 : Int32) : Nat → Int32 → Option Int32
 | 0, _ => none
 | n + 1, v3 => (getI σ 0 0 fun x4 =>
if x4 < v3 then
 (k78)
else
 (f_X1_breaks_L29 (fun x10 => if x10 ≤ u2 then
 (f_X1_breaks_L15 k70 k78 σ u1 u2 n (v3 + (1 : Int32)))
else
 (k70 v3)) σ u1 u2 v3 FU (0 : Int32) u1))
def f_X1_breaks (σ : Mem) (a1 : Int32) (a2 : Int32) : Option Int32 :=
 (bnd (f_X1_isSize σ a1) fun x1 =>
if x1 = 0 then
 (some (-1 : Int32))
else
 (if 0 ≤ a2 then
 (f_X1_breaks_L15 (fun x12 => some x12) (some (-1 : Int32)) σ a1 a2 FU (1 : Int32))
else
 (some (-1 : Int32))))
def f_X1_ripe (σ : Mem) (a1 : Int32) : Option Int32 :=
 (bnd (f_X1_isFilter σ a1) fun x1 =>
if x1 = 0 then
 (some (-1 : Int32))
else
 (rdN σ 3 8 a1 fun j4 =>
getI σ j4 12 fun x5 =>
some x5))
def f_X1_isTest (σ : Mem) (a1 : Int32) (a2 : Int32) (a3 : Int32) : Option Int32 :=
 (bnd (f_X1_isIn σ (a1).toInt64 (1 : Int64) (60 : Int64)) fun x1 =>
if x1 = 0 then
 (retZ (0 : Int32))
else
 (bnd (f_X1_isIn σ (a2).toInt64 (0 : Int64) (a1).toInt64) fun x3 =>
if x3 = 0 then
 (retZ (0 : Int32))
else
 (bnd (f_X1_isIn σ (a3).toInt64 (0 : Int64) (a1).toInt64) fun x5 =>
if x5 = 0 then
 (retZ (0 : Int32))
else
 (retZ (1 : Int32)))))
def f_X1_gcd_L6 (k31 : Int64 → Option Int64) (σ : Mem) : Nat → Int64 → Int64 → Option Int64
 | 0, _, _ => none
 | n + 1, v4, v6 => (if v6 = (0 : Int64) then
 (k31 v4)
else
 (divL v6 <|
wlet (v4 - v4 / v6 * v6) fun y2 =>
f_X1_gcd_L6 k31 σ n v6 y2))
def f_X1_gcd (σ : Mem) (a1 : Int64) (a2 : Int64) : Option Int64 :=
 (f_X1_gcd_L6 (fun y3 => some y3) σ FU a1 a2)
def f_X1_ways_L5 (k48 : Int64 → Option Int64) (σ : Mem) (u0 : Int32) (u1 : Int32) : Nat → Int64 → Int32 → Option Int64
 | 0, _, _ => none
 | n + 1, v2, v4 => (if u1 ≤ v4 then
 (k48 v2)
else
 (bnd (f_X1_gcd σ v2 ((v4 + (1 : Int32))).toInt64) fun y2 =>
divL y2 <|
divL y2 <|
divL (((v4 + (1 : Int32))).toInt64 / y2) <|
wlet ((v2 / y2) * (((u0 - v4)).toInt64 / (((v4 + (1 : Int32))).toInt64 / y2))) fun y3 =>
f_X1_ways_L5 k48 σ u0 u1 n y3 (v4 + (1 : Int32))))
def f_X1_ways (σ : Mem) (a1 : Int32) (a2 : Int32) : Option Int64 :=
 (f_X1_ways_L5 (fun y4 => some y4) σ a1 a2 FU (1 : Int64) (0 : Int32))
def f_X1_share (σ : Mem) (a1 : Int32) (a2 : Int32) (a3 : Int32) (a4 : Int32) : Option Int64 :=
 (bnd (f_X1_isTest σ a1 a2 a3) fun x1 =>
if x1 = 0 then
 (some (-1 : Int64))
else
 (bnd (f_X1_isIn σ (a4).toInt64 (0 : Int64) (1 : Int64)) fun x3 =>
if x3 = 0 then
 (some (-1 : Int64))
else
 (bnd (if a3 ≤ (a1 - a2) then
 (bnd (f_X1_ways σ (a1 - a2) a3) fun y11 =>
some y11)
else
 (some (0 : Int64))) fun y6 =>
bnd (f_X1_ways σ a1 a3) fun y8 =>
bnd (f_X1_gcd σ y8 y6) fun y9 =>
if a4 = 0 then
 (divL y9 <|
some (y6 / y9))
else
 (divL y9 <|
some (y8 / y9)))))
def f_X1_drops_L26 (k57 : Int32 → Option Int32) (k66 : Option Int32) (σ : Mem) (u1 : Int32) (u2 : Int32) (u3 : Int32) : Nat → Int32 → Option Int32
 | 0, _ => none
 | n + 1, v4 => (if u1 < v4 then
 (k66)
else
 (bnd (f_X1_share σ u1 u2 v4 (0 : Int32)) fun y6 =>
bnd (f_X1_share σ u1 u2 v4 (1 : Int32)) fun y7 =>
divL (u3).toInt64 <|
if (y7 / (u3).toInt64) < y6 then
 (f_X1_drops_L26 k57 k66 σ u1 u2 u3 n (v4 + (1 : Int32)))
else
 (k57 v4)))
def f_X1_drops (σ : Mem) (a1 : Int32) (a2 : Int32) (a3 : Int32) : Option Int32 :=
 (bnd (f_X1_isTest σ a1 a2 (0 : Int32)) fun x1 =>
if x1 = 0 then
 (some (-1 : Int32))
else
 (bnd (f_X1_isIn σ (a3).toInt64 (1 : Int64) (1000000 : Int64)) fun x3 =>
if x3 = 0 then
 (some (-1 : Int32))
else
 (f_X1_drops_L26 (fun x9 => some x9) (some (-1 : Int32)) σ a1 a2 a3 FU (0 : Int32))))
def f_X1_layer (σ : Mem) (a1 : Int32) (a2 : Int32) : Option (Mem × Int32) :=
 (getI σ 0 26 fun x1 =>
if x1 = (6 : Int32) then
 (some (σ, (-1 : Int32)))
else
 (bnd (f_X1_isIn σ (a1).toInt64 (1 : Int64) (20 : Int64)) fun x3 =>
if x3 = 0 then
 (some (σ, (-1 : Int32)))
else
 (bnd (f_X1_isIn σ (a2).toInt64 (1 : Int64) (1000 : Int64)) fun x5 =>
if x5 = 0 then
 (some (σ, (-1 : Int32)))
else
 (getI σ 0 26 fun x8 =>
wrI σ 23 6 x8 a1 fun σ9 =>
getI σ9 0 26 fun x11 =>
wrI σ9 24 6 x11 a2 fun σ12 =>
getI σ12 0 26 fun x13 =>
putI σ12 0 26 (x13 + (1 : Int32)) fun σ14 =>
getI σ14 0 26 fun x15 =>
some (σ14, (x15 - (1 : Int32)))))))
def f_X1_lasts_L13 (k47 : Mem → Option (Mem × Int32)) (u1 : Int32) : Nat → Mem → Int32 → Option (Mem × Int32)
 | 0, _, _ => none
 | n + 1, σ, v2 => (getI σ 0 26 fun x4 =>
if x4 ≤ v2 then
 (k47 σ)
else
 (rdI σ 25 6 v2 fun x10 =>
rdN σ 29 6 x10 fun j11 =>
wrR σ 111 10 v2 (some j11) fun σ12 =>
f_X1_lasts_L13 k47 u1 n σ12 (v2 + (1 : Int32))))
def f_X1_lasts_L71 (k101 : Mem → Option (Mem × Int32)) (u1 : Int32) (u2 : Int32) : Nat → Mem → Int32 → Option (Mem × Int32)
 | 0, _, _ => none
 | n + 1, σ, v4 => (if (8 : Int32) ≤ v4 then
 (k101 σ)
else
 (rdI σ 10 8 v4 fun x22 =>
wrI σ 115 8 v4 x22 fun σ23 =>
f_X1_lasts_L71 k101 u1 u2 n σ23 (v4 + (1 : Int32))))
def f_X1_lasts_L60 (k155 : Mem → Int32 → Option (Mem × Int32)) (k163 : Mem → Option (Mem × Int32)) (u1 : Int32) : Nat → Mem → Int32 → Option (Mem × Int32)
 | 0, _, _ => none
 | n + 1, σ, v2 => (if (100 : Int32) ≤ v2 then
 (k163 σ)
else
 (f_X1_lasts_L71 (fun σ24 => getI σ24 0 21 fun x26 =>
bnd (f_X3_pushWith σ24 110 x26) fun x27 =>
bnd2 (if x27 = (-1 : Int32) then
 (bnd (f_X3_comes σ24 110) fun x34 =>
some (σ24, x34))
else
 (bnd (f_X3_pass σ24 110 100 11) fun σ38 =>
getI σ38 110 11 fun x40 =>
some (σ38, x40))) fun σ29 x30 =>
if x30 ≤ u1 then
 (f_X1_lasts_L60 k155 k163 u1 n σ29 (v2 + (1 : Int32)))
else
 (k155 σ29 v2)) u1 v2 FU σ (0 : Int32)))
def f_X1_lasts (σ : Mem) (a1 : Int32) : Option (Mem × Int32) :=
 (getI σ 0 26 fun x2 =>
putI σ 110 5 x2 fun σ3 =>
f_X1_lasts_L13 (fun σ13 => bnd (f_X3_change σ13 110 11) fun σ16 =>
f_X1_lasts_L60 (fun σ41 x42 => some (σ41, x42)) (fun σ43 => some (σ43, (100 : Int32))) a1 FU σ16 (0 : Int32)) a1 FU σ3 (0 : Int32))
def f_X1_tryLayers_b_L52 (rec : Mem → Int32 → Int32 → Int32 → Option Mem) (k102 : Mem → Option Mem) (u1 : Int32) (u2 : Int32) (u3 : Int32) : Nat → Mem → Int32 → Option Mem
 | 0, _, _ => none
 | n + 1, σ, v4 => (getI σ 0 26 fun x12 =>
if x12 ≤ v4 then
 (k102 σ)
else
 (if ((u2 >>> (v4 &&& 31)) &&& (1 : Int32)) = (1 : Int32) then
 (f_X1_tryLayers_b_L52 rec k102 u1 u2 u3 n σ (v4 + (1 : Int32)))
else
 (wrI σ 25 6 u1 v4 fun σ16 =>
bnd (rec σ16 (u1 + (1 : Int32)) (u2 ||| ((1 : Int32) <<< (v4 &&& 31))) u3) fun σ17 =>
f_X1_tryLayers_b_L52 rec k102 u1 u2 u3 n σ17 (v4 + (1 : Int32)))))
def f_X1_tryLayers_b (rec : Mem → Int32 → Int32 → Int32 → Option Mem) (σ : Mem) (a1 : Int32) (a2 : Int32) (a3 : Int32) : Option Mem :=
 (getI σ 0 26 fun x1 =>
if a1 = x1 then
 (bnd2 (f_X1_lasts σ a3) fun σ3 x4 =>
getI σ3 0 27 fun x5 =>
if x5 < x4 then
 (putI σ3 0 27 x4 fun σ7 =>
getI σ7 0 26 fun x10 =>
copyI σ7 25 6 (0 : Int32) 26 6 (0 : Int32) x10 fun σ11 =>
some σ11)
else
 (some σ3))
else
 (f_X1_tryLayers_b_L52 rec (fun σ18 => some σ18) a1 a2 a3 FU σ (0 : Int32)))
def f_X1_tryLayers : Nat → Mem → Int32 → Int32 → Int32 → Option Mem
 | 0, _, _, _, _ => none
 | d + 1, σ, a1, a2, a3 => f_X1_tryLayers_b (f_X1_tryLayers d) σ a1 a2 a3
def f_X1_cost (σ : Mem) (a1 : Int32) (a2 : Int32) : Option (Mem × Int32) :=
 (bnd (f_X1_isIn σ (a1).toInt64 (-1 : Int64) (19 : Int64)) fun x1 =>
if x1 = 0 then
 (retZm σ (0 : Int32))
else
 (bnd (if a1 = (-1 : Int32) then
 (some (10000 : Int64))
else
 (some (1000 : Int64))) fun y4 =>
bnd (f_X1_isIn σ (a2).toInt64 (0 : Int64) y4) fun x6 =>
if x6 = 0 then
 (retZm σ (0 : Int32))
else
 (if a1 = (-1 : Int32) then
 (putI σ 0 32 a2 fun σ9 =>
retZm σ9 (1 : Int32))
else
 (wrI σ 31 20 a1 a2 fun σ11 =>
retZm σ11 (1 : Int32)))))
def f_X1_costOf (σ : Mem) (a1 : Int32) : Option Int32 :=
 (rdI σ 31 20 (imin a1 (19 : Int32)) fun x2 =>
some x2)
def f_X1_cheapAt (σ : Mem) (a1 : Int32) (a2 : Int32) : Option Int32 :=
 (rdI σ 32 4941 (((81 : Int32) * a1) + a2) fun x2 =>
some x2)
def f_X1_stays (σ : Mem) (a1 : Int32) (a2 : Int32) : Option Int32 :=
 (bnd (f_X1_costOf σ a2) fun x1 =>
bnd (f_X1_cheapAt σ (a1 + (1 : Int32)) (a2 + (1 : Int32))) fun x2 =>
some (x1 + x2))
def f_X1_changes (σ : Mem) (a1 : Int32) : Option Int32 :=
 (getI σ 0 32 fun x1 =>
bnd (f_X1_costOf σ (0 : Int32)) fun x2 =>
bnd (f_X1_cheapAt σ (a1 + (1 : Int32)) (1 : Int32)) fun x3 =>
some ((x1 + x2) + x3))
def f_X1_cheapest_L39 (k65 : Mem → Option (Mem × Int32)) (u1 : Int32) (u2 : Int32) (u3 : Int32) : Nat → Mem → Int32 → Option (Mem × Int32)
 | 0, _, _ => none
 | n + 1, σ, v4 => (if (81 : Int32) ≤ v4 then
 (k65 σ)
else
 (wrI σ 32 4941 (((81 : Int32) * u1) + v4) (0 : Int32) fun σ9 =>
f_X1_cheapest_L39 k65 u1 u2 u3 n σ9 (v4 + (1 : Int32))))
def f_X1_cheapest_L78 (k126 : Mem → Option (Mem × Int32)) (u1 : Int32) (u2 : Int32) (u3 : Int32) (u4 : Int32) : Nat → Mem → Int32 → Option (Mem × Int32)
 | 0, _, _ => none
 | n + 1, σ, v5 => (if (((20 : Int32) + u4) + (1 : Int32)) ≤ v5 then
 (k126 σ)
else
 (bnd (f_X1_stays σ u4 v5) fun x15 =>
bnd (f_X1_changes σ u4) fun x16 =>
wrI σ 32 4941 (((81 : Int32) * u4) + v5) (imin x15 x16) fun σ17 =>
f_X1_cheapest_L78 k126 u1 u2 u3 u4 n σ17 (v5 + (1 : Int32))))
def f_X1_cheapest_L70 (k132 : Mem → Option (Mem × Int32)) (u1 : Int32) (u2 : Int32) (u3 : Int32) : Nat → Mem → Int32 → Option (Mem × Int32)
 | 0, _, _ => none
 | n + 1, σ, v4 => (if v4 < 0 then
 (k132 σ)
else
 (f_X1_cheapest_L78 (fun σ18 => f_X1_cheapest_L70 k132 u1 u2 u3 n σ18 (v4 + (-1 : Int32))) u1 u2 u3 v4 FU σ (0 : Int32)))
def f_X1_cheapest_L146 (k171 : Int32 → Option (Mem × Int32)) (k180 : Option (Mem × Int32)) (σ : Mem) (u1 : Int32) (u2 : Int32) : Nat → Int32 → Option (Mem × Int32)
 | 0, _ => none
 | n + 1, v4 => (if u1 ≤ v4 then
 (k180)
else
 (bnd (f_X1_stays σ v4 (u2 + v4)) fun x23 =>
bnd (f_X1_changes σ v4) fun x24 =>
if x23 ≤ x24 then
 (f_X1_cheapest_L146 k171 k180 σ u1 u2 n (v4 + (1 : Int32)))
else
 (k171 v4)))
def f_X1_cheapest (σ : Mem) (a1 : Int32) (a2 : Int32) (a3 : Int32) : Option (Mem × Int32) :=
 (bnd (f_X1_isIn σ (a1).toInt64 (1 : Int64) (60 : Int64)) fun x1 =>
if x1 = 0 then
 (some (σ, (-1 : Int32)))
else
 (bnd (f_X1_isIn σ (a2).toInt64 (0 : Int64) (19 : Int64)) fun x3 =>
if x3 = 0 then
 (some (σ, (-1 : Int32)))
else
 (bnd (f_X1_isIn σ (a3).toInt64 (0 : Int64) (1 : Int64)) fun x5 =>
if x5 = 0 then
 (some (σ, (-1 : Int32)))
else
 (f_X1_cheapest_L39 (fun σ10 => wlet (a1 - (1 : Int32)) fun x11 =>
f_X1_cheapest_L70 (fun σ19 => if a3 = 0 then
 (bnd (f_X1_cheapAt σ19 (0 : Int32) a2) fun x21 =>
some (σ19, x21))
else
 (f_X1_cheapest_L146 (fun x26 => some (σ19, x26)) (some (σ19, (-1 : Int32))) σ19 a1 a2 FU (0 : Int32))) a1 a2 a3 FU σ10 x11) a1 a2 a3 FU σ (0 : Int32)))))
def f_X1_gauge (σ : Mem) (a1 : Int32) (a2 : Int32) (a3 : Int32) (a4 : Int32) : Option (Mem × Int32) :=
 (getI σ 0 38 fun x1 =>
if x1 = (100 : Int32) then
 (some (σ, (-1 : Int32)))
else
 (bnd (f_X1_isCell σ a1 a2) fun x3 =>
if x3 = 0 then
 (some (σ, (-1 : Int32)))
else
 (bnd (f_X1_isIn σ (a3).toInt64 (1 : Int64) (10000 : Int64)) fun x5 =>
if x5 = 0 then
 (some (σ, (-1 : Int32)))
else
 (bnd (f_X1_isIn σ (a4).toInt64 (a3).toInt64 (10000 : Int64)) fun x7 =>
if x7 = 0 then
 (some (σ, (-1 : Int32)))
else
 (getI σ 0 38 fun x10 =>
wrI σ 34 100 x10 a1 fun σ11 =>
getI σ11 0 38 fun x13 =>
wrI σ11 35 100 x13 a2 fun σ14 =>
getI σ14 0 38 fun x16 =>
wrI σ14 36 100 x16 a3 fun σ17 =>
getI σ17 0 38 fun x19 =>
wrI σ17 37 100 x19 a4 fun σ20 =>
getI σ20 0 38 fun x22 =>
getI σ20 0 0 fun x23 =>
wrI σ20 38 100 x22 x23 fun σ24 =>
getI σ24 0 38 fun x25 =>
putI σ24 0 38 (x25 + (1 : Int32)) fun σ26 =>
getI σ26 0 38 fun x27 =>
some (σ26, (x27 - (1 : Int32))))))))
def f_X1_goes_2_L10 (k75 : Option Int32) (k83 : Option Int32) (σ : Mem) (u1 : Int32) (u2 : Int32) (u3 : Int32) (u5 : Int32) (u6 : Int32) : Nat → Int32 → Option Int32
 | 0, _ => none
 | n + 1, v7 => (if u5 < v7 then
 (k83)
else
 (rdI σ 34 100 v7 fun x4 =>
if x4 = u1 then
 (rdI σ 35 100 v7 fun x7 =>
if x7 = u2 then
 (rdI σ 38 100 v7 fun x10 =>
if u3 < x10 then
 (f_X1_goes_2_L10 k75 k83 σ u1 u2 u3 u5 u6 n (v7 + (1 : Int32)))
else
 (rdI σ 36 100 v7 fun x13 =>
rdI σ 37 100 v7 fun x15 =>
bnd (f_X1_isIn σ (u6).toInt64 (x13).toInt64 (x15).toInt64) fun x16 =>
if x16 = 0 then
 (k75)
else
 (f_X1_goes_2_L10 k75 k83 σ u1 u2 u3 u5 u6 n (v7 + (1 : Int32)))))
else
 (f_X1_goes_2_L10 k75 k83 σ u1 u2 u3 u5 u6 n (v7 + (1 : Int32))))
else
 (f_X1_goes_2_L10 k75 k83 σ u1 u2 u3 u5 u6 n (v7 + (1 : Int32)))))
def f_X1_goes_2 (σ : Mem) (a1 : Int32) (a2 : Int32) (a3 : Int32) (a4 : Int32) (a5 : Int32) : Option Int32 :=
 (bnd (f_X7_resistOf σ a4) fun x1 =>
f_X1_goes_2_L10 (retZ (0 : Int32)) (retZ (1 : Int32)) σ a1 a2 a3 a5 x1 FU (0 : Int32))
def f_X1_back_L55 (k153 : Int32 → Option Int32) (σ : Mem) (u1 : Int32) (u2 : Int32) (u3 : Int32) (u4 : Int32) (u5 : Nat) : Nat → Int32 → Int32 → Option Int32
 | 0, _, _ => none
 | n + 1, v6, v7 => (getI σ u5 4 fun x12 =>
if x12 < v7 then
 (k153 v6)
else
 (getI σ 0 38 fun x14 =>
bnd (f_X1_goes_2 σ u1 u2 u3 v7 (x14 - (1 : Int32))) fun x15 =>
if x15 = 0 then
 (f_X1_back_L55 k153 σ u1 u2 u3 u4 u5 n v6 (v7 + (1 : Int32)))
else
 (getI σ u5 4 fun x17 =>
getI σ u5 2 fun x18 =>
wlet ((x17 - v7) * x18) fun x19 =>
if u4 = 0 then
 (bnd (if v6 = (-1 : Int32) then
 (some x19)
else
 (some (imin v6 x19))) fun x22 =>
f_X1_back_L55 k153 σ u1 u2 u3 u4 u5 n x22 (v7 + (1 : Int32)))
else
 (getI σ u5 2 fun x24 =>
wlet (imax v6 ((x19 + x24) - (1 : Int32))) fun x25 =>
f_X1_back_L55 k153 σ u1 u2 u3 u4 u5 n x25 (v7 + (1 : Int32))))))
def f_X1_back (σ : Mem) (a1 : Int32) (a2 : Int32) (a3 : Int32) (a4 : Int32) : Option Int32 :=
 (bnd (f_X1_isCell σ a1 a2) fun x1 =>
if x1 = 0 then
 (some (-1 : Int32))
else
 (getI σ 0 0 fun x3 =>
bnd (f_X1_isIn σ (a3).toInt64 (0 : Int64) (x3).toInt64) fun x4 =>
if x4 = 0 then
 (some (-1 : Int32))
else
 (bnd (f_X1_isIn σ (a4).toInt64 (0 : Int64) (1 : Int64)) fun x6 =>
if x6 = 0 then
 (some (-1 : Int32))
else
 (rdN σ 3 8 a1 fun j9 =>
rdN σ (j9 + 1) 10 a2 fun j11 =>
f_X1_back_L55 (fun x26 => some x26) σ a1 a2 a3 a4 j11 FU (-1 : Int32) (1 : Int32)))))
def f_X1_barred_L79 (k130 : Int32 → Option Int32) (σ : Mem) (u1 : Int32) (u2 : Int32) (u3 : Int32) (u4 : Int32) : Nat → Int32 → Int32 → Option Int32
 | 0, _, _ => none
 | n + 1, v5, v6 => (rdN σ 3 8 u1 fun j18 =>
rdN σ (j18 + 1) 10 u2 fun j20 =>
getI σ j20 4 fun x21 =>
if x21 < v6 then
 (k130 v5)
else
 (if v5 = 0 then
 (bnd (f_X1_goes_2 σ u1 u2 u3 v6 u4) fun x24 =>
if x24 = 0 then
 (f_X1_barred_L79 k130 σ u1 u2 u3 u4 n (0 : Int32) (v6 + (1 : Int32)))
else
 (f_X1_barred_L79 k130 σ u1 u2 u3 u4 n (1 : Int32) (v6 + (1 : Int32))))
else
 (f_X1_barred_L79 k130 σ u1 u2 u3 u4 n (1 : Int32) (v6 + (1 : Int32)))))
def f_X1_barred_L28 (k135 : Int32 → Option Int32) (k144 : Option Int32) (σ : Mem) (u1 : Int32) (u2 : Int32) (u3 : Int32) : Nat → Int32 → Option Int32
 | 0, _ => none
 | n + 1, v4 => (getI σ 0 38 fun x6 =>
if x6 ≤ v4 then
 (k144)
else
 (rdI σ 34 100 v4 fun x9 =>
if x9 = u1 then
 (rdI σ 35 100 v4 fun x12 =>
if x12 = u2 then
 (rdI σ 38 100 v4 fun x15 =>
if x15 ≤ u3 then
 (f_X1_barred_L79 (fun x26 => if x26 = 0 then
 (k135 v4)
else
 (f_X1_barred_L28 k135 k144 σ u1 u2 u3 n (v4 + (1 : Int32)))) σ u1 u2 u3 v4 FU (0 : Int32) (1 : Int32))
else
 (f_X1_barred_L28 k135 k144 σ u1 u2 u3 n (v4 + (1 : Int32))))
else
 (f_X1_barred_L28 k135 k144 σ u1 u2 u3 n (v4 + (1 : Int32))))
else
 (f_X1_barred_L28 k135 k144 σ u1 u2 u3 n (v4 + (1 : Int32)))))
def f_X1_barred (σ : Mem) (a1 : Int32) (a2 : Int32) (a3 : Int32) : Option Int32 :=
 (bnd (f_X1_isCell σ a1 a2) fun x1 =>
if x1 = 0 then
 (some (-1 : Int32))
else
 (getI σ 0 0 fun x3 =>
bnd (f_X1_isIn σ (a3).toInt64 (0 : Int64) (x3).toInt64) fun x4 =>
if x4 = 0 then
 (some (-1 : Int32))
else
 (f_X1_barred_L28 (fun x28 => some x28) (some (-1 : Int32)) σ a1 a2 a3 FU (0 : Int32))))
def f_X1_led_L97 (k138 : Int32 → Option Int32) (σ : Mem) (u1 : Int32) (u4 : Int32) : Nat → Int32 → Int32 → Option Int32
 | 0, _, _ => none
 | n + 1, v3, v5 => (rdN σ 3 8 u4 fun j16 =>
getI σ j16 5 fun x17 =>
if x17 ≤ v5 then
 (k138 v3)
else
 (rdN σ 3 8 u4 fun j20 =>
rdN σ (j20 + 1) 10 v5 fun j22 =>
bnd (f_X4_of σ j22 u1) fun x23 =>
wlet (v3 + x23) fun x24 =>
f_X1_led_L97 k138 σ u1 u4 n x24 (v5 + (1 : Int32))))
def f_X1_led_L68 (k144 : Int32 → Option Int32) (σ : Mem) (u1 : Int32) : Nat → Int32 → Int32 → Option Int32
 | 0, _, _ => none
 | n + 1, v3, v4 => (getI σ 0 3 fun x8 =>
if x8 ≤ v4 then
 (k144 v3)
else
 (rdN σ 3 8 v4 fun j11 =>
bnd (f_X4_of σ (j11 + 2) u1) fun x13 =>
wlet (v3 + x13) fun x14 =>
f_X1_led_L97 (fun x25 => f_X1_led_L68 k144 σ u1 n x25 (v4 + (1 : Int32))) σ u1 v4 FU x14 (0 : Int32)))
def f_X1_led (σ : Mem) (a1 : Int32) (a2 : Int32) : Option Int32 :=
 (bnd (f_X1_isSize σ a1) fun x1 =>
if x1 = 0 then
 (some (-1 : Int32))
else
 (bnd (f_X1_isIn σ (a2).toInt64 (0 : Int64) (5 : Int64)) fun x3 =>
if x3 = 0 then
 (some (-1 : Int32))
else
 (if a2 = (0 : Int32) then
 (rdI σ 12 8 a1 fun x7 =>
some x7)
else if a2 = (1 : Int32) then
 (f_X1_led_L68 (fun x26 => some x26) σ a1 FU (0 : Int32) (0 : Int32))
else if a2 = (2 : Int32) then
 (rdI σ 13 8 a1 fun x28 =>
some x28)
else if a2 = (3 : Int32) then
 (rdI σ 14 8 a1 fun x30 =>
some x30)
else if a2 = (4 : Int32) then
 (rdI σ 15 8 a1 fun x32 =>
some x32)
else 
 (rdI σ 16 8 a1 fun x34 =>
some x34))))
def f_X1_digest_L59 (k87 : Int32 → Option Int32) (σ : Mem) (u2 : Int32) (u3 : Nat) : Nat → Int32 → Int32 → Option Int32
 | 0, _, _ => none
 | n + 1, v1, v4 => (if (8 : Int32) ≤ v4 then
 (k87 v1)
else
 (bnd (f_X4_of σ (u3 + 2) v4) fun x15 =>
wlet (((31 : Int32) * v1) + x15) fun x16 =>
f_X1_digest_L59 k87 σ u2 u3 n x16 (v4 + (1 : Int32))))
def f_X1_digest_L118 (k169 : Int32 → Option Int32) (σ : Mem) (u2 : Int32) (u3 : Nat) (u4 : Int32) : Nat → Int32 → Int32 → Option Int32
 | 0, _, _ => none
 | n + 1, v1, v5 => (if (8 : Int32) ≤ v5 then
 (k169 v1)
else
 (rdN σ (u3 + 1) 10 u4 fun j26 =>
rdI σ (j26 + 1) 8 v5 fun x28 =>
wlet (((31 : Int32) * v1) + x28) fun x29 =>
rdN σ (u3 + 1) 10 u4 fun j31 =>
rdI σ (j31 + 2) 8 v5 fun x33 =>
wlet (((31 : Int32) * x29) + x33) fun x34 =>
f_X1_digest_L118 k169 σ u2 u3 u4 n x34 (v5 + (1 : Int32))))
def f_X1_digest_L90 (k175 : Int32 → Option Int32) (σ : Mem) (u2 : Int32) (u3 : Nat) : Nat → Int32 → Int32 → Option Int32
 | 0, _, _ => none
 | n + 1, v1, v4 => (getI σ u3 5 fun x18 =>
if x18 ≤ v4 then
 (k175 v1)
else
 (rdN σ (u3 + 1) 10 v4 fun j21 =>
getI σ j21 4 fun x22 =>
wlet (((31 : Int32) * v1) + x22) fun x23 =>
f_X1_digest_L118 (fun x35 => f_X1_digest_L90 k175 σ u2 u3 n x35 (v4 + (1 : Int32))) σ u2 u3 v4 FU x23 (0 : Int32)))
def f_X1_digest_L11 (k181 : Int32 → Option Int32) (σ : Mem) : Nat → Int32 → Int32 → Option Int32
 | 0, _, _ => none
 | n + 1, v1, v2 => (getI σ 0 3 fun x3 =>
if x3 ≤ v2 then
 (k181 v1)
else
 (rdN σ 3 8 v2 fun j6 =>
getI σ j6 6 fun x7 =>
wlet (((31 : Int32) * v1) + x7) fun x8 =>
getI σ j6 7 fun x9 =>
wlet (((31 : Int32) * x8) + x9) fun x10 =>
getI σ j6 8 fun x11 =>
wlet (((31 : Int32) * x10) + x11) fun x12 =>
f_X1_digest_L59 (fun x17 => f_X1_digest_L90 (fun x36 => f_X1_digest_L11 k181 σ n x36 (v2 + (1 : Int32))) σ v2 j6 FU x17 (0 : Int32)) σ v2 j6 FU x12 (0 : Int32)))
def f_X1_digest (σ : Mem) : Option Int32 :=
 (getI σ 0 0 fun x1 =>
wlet ((217 : Int32) + x1) fun x2 =>
f_X1_digest_L11 (fun x37 => some x37) σ FU x2 (0 : Int32))
def f_X1_countOf_L4 (k39 : Int32 → Option Int32) (σ : Mem) (u1 : Int32) : Nat → Int32 → Int32 → Option Int32
 | 0, _, _ => none
 | n + 1, v2, v3 => (getI σ 0 3 fun x1 =>
if x1 ≤ v3 then
 (k39 v2)
else
 (rdN σ 3 8 v3 fun j4 =>
getI σ j4 6 fun x5 =>
bnd (if x5 = u1 then
 (some (1 : Int32))
else
 (some (0 : Int32))) fun x7 =>
wlet (v2 + x7) fun x9 =>
f_X1_countOf_L4 k39 σ u1 n x9 (v3 + (1 : Int32))))
def f_X1_countOf (σ : Mem) (a1 : Int32) : Option Int32 :=
 (f_X1_countOf_L4 (fun x10 => some x10) σ a1 FU (0 : Int32) (0 : Int32))
def f_X1_count_L70 (k93 : Int32 → Option Int32) (σ : Mem) : Nat → Int32 → Int32 → Option Int32
 | 0, _, _ => none
 | n + 1, v2, v3 => (getI σ 0 3 fun x4 =>
if x4 ≤ v3 then
 (k93 v2)
else
 (rdI σ 20 8 v3 fun x7 =>
wlet (v2 + x7) fun x8 =>
f_X1_count_L70 k93 σ n x8 (v3 + (1 : Int32))))
def f_X1_count (σ : Mem) (a1 : Int32) : Option Int32 :=
 (if a1 = (0 : Int32) then
 (getI σ 0 0 fun x2 =>
some x2)
else if a1 = (1 : Int32) then
 (getI σ 0 3 fun x3 =>
some x3)
else if a1 = (2 : Int32) then
 (f_X1_count_L70 (fun x9 => some x9) σ FU (0 : Int32) (0 : Int32))
else if a1 = (3 : Int32) then
 (bnd (f_X1_countOf σ (4 : Int32)) fun x10 =>
some x10)
else if a1 = (4 : Int32) then
 (bnd (f_X1_countOf σ (5 : Int32)) fun x11 =>
some x11)
else if a1 = (5 : Int32) then
 (getI σ 0 8 fun x12 =>
some x12)
else if a1 = (6 : Int32) then
 (getI σ 0 26 fun x13 =>
some x13)
else if a1 = (7 : Int32) then
 (getI σ 0 38 fun x14 =>
some x14)
else if a1 = (8 : Int32) then
 (getI σ 0 7 fun x15 =>
some x15)
else if a1 = (9 : Int32) then
 (getI σ 0 21 fun x16 =>
some x16)
else 
 (some (-1 : Int32)))
def f_X16_init (σ : Mem) (i0 : Nat) (a1 : Int32) (a2 : Nat) : Option Mem :=
 (putI σ i0 0 a1 fun σ1 =>
putR σ1 i0 1 (some a2) fun σ2 =>
some σ2)
def f_X12_init (σ : Mem) (i0 : Nat) : Option Unit :=
 (some ())
def f_X13_init (σ : Mem) (i0 : Nat) (a1 : Nat) : Option Mem :=
 (bnd (f_X12_init σ i0) fun _ =>
putR σ i0 0 (some a1) fun σ1 =>
some σ1)
def f_X14_init (σ : Mem) (i0 : Nat) (a1 : Int32) : Option Mem :=
 (bnd (f_X12_init σ i0) fun _ =>
putI σ i0 0 a1 fun σ1 =>
some σ1)
def f_X15_init (σ : Mem) (i0 : Nat) (a1 : Int32) : Option Mem :=
 (bnd (f_X12_init σ i0) fun _ =>
putI σ i0 0 a1 fun σ1 =>
some σ1)
def f_X17_init (σ : Mem) (i0 : Nat) (a1 : Nat) (a2 : Nat) (a3 : Int32) : Option Mem :=
 (putR σ i0 0 (some a1) fun σ1 =>
putR σ1 i0 1 (some a2) fun σ2 =>
putI σ2 i0 2 a3 fun σ3 =>
some σ3)
def f_X10_init (σ : Mem) (i0 : Nat) (a1 : Int32) (a2 : Nat) : Option Mem :=
 (putZ σ i0 0 a1 fun σ1 =>
putR σ1 i0 1 (some a2) fun σ2 =>
some σ2)
def f_X11_init (σ : Mem) (i0 : Nat) (a1 : Nat) : Option Mem :=
 (putR σ i0 0 (some a1) fun σ1 =>
some σ1)
def f_X18_init (σ : Mem) (i0 : Nat) (a1 : Int32) (a2 : Option Nat) (a3 : Nat) : Option Mem :=
 (putI σ i0 0 a1 fun σ1 =>
putR σ1 i0 1 a2 fun σ2 =>
putR σ2 i0 2 (some a3) fun σ3 =>
some σ3)
def f_X8_init (σ : Mem) (i0 : Nat) (a1 : Nat) (a2 : Int32) : Option Mem :=
 (putR σ i0 0 (some a1) fun σ1 =>
putI σ1 i0 1 a2 fun σ2 =>
some σ2)
def f_X8_look_L0 (k38 : Mem → Option (Mem × Int32)) (u0 : Nat) : Nat → Mem → Option (Mem × Int32)
 | 0, _ => none
 | n + 1, σ => (getI σ u0 2 fun x1 =>
getI σ u0 1 fun x2 =>
if x2 ≤ x1 then
 (k38 σ)
else
 (getN σ u0 0 fun j4 =>
getI σ u0 2 fun x5 =>
rdI σ j4 160 x5 fun x6 =>
if x6 = (32 : Int32) then
 (getI σ u0 2 fun x8 =>
putI σ u0 2 (x8 + (1 : Int32)) fun σ9 =>
f_X8_look_L0 k38 u0 n σ9)
else
 (k38 σ)))
def f_X8_look (σ : Mem) (i0 : Nat) : Option (Mem × Int32) :=
 (f_X8_look_L0 (fun σ10 => getI σ10 i0 2 fun x11 =>
getI σ10 i0 1 fun x12 =>
if x12 ≤ x11 then
 (some (σ10, (-1 : Int32)))
else
 (getN σ10 i0 0 fun j14 =>
getI σ10 i0 2 fun x15 =>
rdI σ10 j14 160 x15 fun x16 =>
some (σ10, (x16 &&& (255 : Int32))))) i0 FU σ)
def f_X8_isDigit (σ : Mem) (i0 : Nat) : Option Int32 :=
 (getI σ i0 2 fun x1 =>
getI σ i0 1 fun x2 =>
if x2 ≤ x1 then
 (retZ (0 : Int32))
else
 (getN σ i0 0 fun j4 =>
getI σ i0 2 fun x5 =>
rdI σ j4 160 x5 fun x6 =>
if x6 < (48 : Int32) then
 (retZ (0 : Int32))
else
 (getN σ i0 0 fun j8 =>
getI σ i0 2 fun x9 =>
rdI σ j8 160 x9 fun x10 =>
if (57 : Int32) < x10 then
 (retZ (0 : Int32))
else
 (retZ (1 : Int32)))))
def f_X8_isSign (σ : Mem) (a1 : Int32) : Option Int32 :=
 (if a1 = (61 : Int32) then
 (retZ (1 : Int32))
else
 (if a1 = (60 : Int32) then
 (retZ (1 : Int32))
else
 (if a1 = (62 : Int32) then
 (retZ (1 : Int32))
else
 (retZ (0 : Int32)))))
