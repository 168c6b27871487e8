set_option maxRecDepth 100000
def f_L_law_L23 (L : Nat) (xs : Nat → Int32) : Nat → Mem → Shp → Int32 → Option Int32
 | 0, _, _, _ => none
 | n + 1, σ, τ1, v4 => (if ((nI L) - (9 : Int32)) < v4 then
 (some (1 : Int32))
else
 (sldI L xs v4 fun x16 =>
if (x16 &&& (63 : Int32)) = (0 : Int32) then
 (sldI L xs (v4 + (1 : Int32)) fun x18 =>
sldI L xs (v4 + (2 : Int32)) fun x19 =>
sldI L xs (v4 + (3 : Int32)) fun x20 =>
bnd2 (f_X1_grain σ x18 x19 x20) fun σ21 x22 =>
sldI L xs (v4 + (1 : Int32)) fun x23 =>
sldI L xs (v4 + (2 : Int32)) fun x24 =>
sldI L xs (v4 + (3 : Int32)) fun x25 =>
bnd2 (f_X6_grain σ21 x23 x24 x25) fun σ26 x27 =>
if x22 = x27 then
 (f_L_law_L23 L xs n σ26 τ1 (v4 + (9 : Int32)))
else
 (some (0 : Int32)))
else if (x16 &&& (63 : Int32)) = (1 : Int32) then
 (bndL (f_X1_filter σ τ1) fun σ29 τ29 x30 =>
bnd2 (f_X6_filter σ29) fun σ34 x35 =>
if x30 = x35 then
 (f_L_law_L23 L xs n σ34 τ29 (v4 + (9 : Int32)))
else
 (some (0 : Int32)))
else if (x16 &&& (63 : Int32)) = (2 : Int32) then
 (sldI L xs (v4 + (1 : Int32)) fun x37 =>
sldI L xs (v4 + (2 : Int32)) fun x38 =>
sldI L xs (v4 + (3 : Int32)) fun x39 =>
bndL (f_X1_cell σ τ1 x37 x38 x39) fun σ40 τ40 x41 =>
sldI L xs (v4 + (1 : Int32)) fun x45 =>
sldI L xs (v4 + (2 : Int32)) fun x46 =>
sldI L xs (v4 + (3 : Int32)) fun x47 =>
bnd2 (f_X6_cell σ40 x45 x46 x47) fun σ48 x49 =>
if x41 = x49 then
 (f_L_law_L23 L xs n σ48 τ40 (v4 + (9 : Int32)))
else
 (some (0 : Int32)))
else if (x16 &&& (63 : Int32)) = (3 : Int32) then
 (sldI L xs (v4 + (1 : Int32)) fun x51 =>
sldI L xs (v4 + (2 : Int32)) fun x52 =>
sldI L xs (v4 + (3 : Int32)) fun x53 =>
bnd2 (f_X1_set σ x51 x52 x53) fun σ54 x55 =>
sldI L xs (v4 + (1 : Int32)) fun x56 =>
sldI L xs (v4 + (2 : Int32)) fun x57 =>
sldI L xs (v4 + (3 : Int32)) fun x58 =>
bnd2 (f_X6_set σ54 x56 x57 x58) fun σ59 x60 =>
if x55 = x60 then
 (f_L_law_L23 L xs n σ59 τ1 (v4 + (9 : Int32)))
else
 (some (0 : Int32)))
else if (x16 &&& (63 : Int32)) = (4 : Int32) then
 (sldI L xs (v4 + (1 : Int32)) fun x62 =>
sldI L xs (v4 + (2 : Int32)) fun x63 =>
sldI L xs (v4 + (3 : Int32)) fun x64 =>
bnd (f_X1_celled σ x62 x63 x64) fun x65 =>
sldI L xs (v4 + (1 : Int32)) fun x66 =>
sldI L xs (v4 + (2 : Int32)) fun x67 =>
sldI L xs (v4 + (3 : Int32)) fun x68 =>
bnd (f_X6_celled σ x66 x67 x68) fun x69 =>
if x65 = x69 then
 (f_L_law_L23 L xs n σ τ1 (v4 + (9 : Int32)))
else
 (some (0 : Int32)))
else if (x16 &&& (63 : Int32)) = (5 : Int32) then
 (sldI L xs (v4 + (1 : Int32)) fun x71 =>
sldI L xs (v4 + (2 : Int32)) fun x72 =>
sldI L xs (v4 + (3 : Int32)) fun x73 =>
sldI L xs (v4 + (4 : Int32)) fun x74 =>
bnd (f_X1_held σ x71 x72 x73 x74) fun x75 =>
sldI L xs (v4 + (1 : Int32)) fun x76 =>
sldI L xs (v4 + (2 : Int32)) fun x77 =>
sldI L xs (v4 + (3 : Int32)) fun x78 =>
sldI L xs (v4 + (4 : Int32)) fun x79 =>
bnd (f_X6_held σ x76 x77 x78 x79) fun x80 =>
if x75 = x80 then
 (f_L_law_L23 L xs n σ τ1 (v4 + (9 : Int32)))
else
 (some (0 : Int32)))
else if (x16 &&& (63 : Int32)) = (6 : Int32) then
 (sldI L xs (v4 + (1 : Int32)) fun x82 =>
sldI L xs (v4 + (2 : Int32)) fun x83 =>
bnd (f_X1_told σ x82 x83) fun x84 =>
sldI L xs (v4 + (1 : Int32)) fun x85 =>
sldI L xs (v4 + (2 : Int32)) fun x86 =>
bnd (f_X6_told σ x85 x86) fun x87 =>
if x84 = x87 then
 (f_L_law_L23 L xs n σ τ1 (v4 + (9 : Int32)))
else
 (some (0 : Int32)))
else if (x16 &&& (63 : Int32)) = (7 : Int32) then
 (sldI L xs (v4 + (1 : Int32)) fun x89 =>
sldI L xs (v4 + (2 : Int32)) fun x90 =>
bnd (f_X1_push σ x89 x90) fun x91 =>
sldI L xs (v4 + (1 : Int32)) fun x92 =>
sldI L xs (v4 + (2 : Int32)) fun x93 =>
bnd (f_X6_push σ x92 x93) fun x94 =>
if x91 = x94 then
 (f_L_law_L23 L xs n σ τ1 (v4 + (9 : Int32)))
else
 (some (0 : Int32)))
else if (x16 &&& (63 : Int32)) = (8 : Int32) then
 (sldI L xs (v4 + (1 : Int32)) fun x96 =>
sldI L xs (v4 + (2 : Int32)) fun x97 =>
sldI L xs (v4 + (3 : Int32)) fun x98 =>
sldI L xs (v4 + (4 : Int32)) fun x99 =>
sldI L xs (v4 + (5 : Int32)) fun x100 =>
bnd2 (f_X1_feed σ x96 x97 x98 x99 x100) fun σ101 x102 =>
sldI L xs (v4 + (1 : Int32)) fun x103 =>
sldI L xs (v4 + (2 : Int32)) fun x104 =>
sldI L xs (v4 + (3 : Int32)) fun x105 =>
sldI L xs (v4 + (4 : Int32)) fun x106 =>
sldI L xs (v4 + (5 : Int32)) fun x107 =>
bnd2 (f_X6_feed σ101 x103 x104 x105 x106 x107) fun σ108 x109 =>
if x102 = x109 then
 (f_L_law_L23 L xs n σ108 τ1 (v4 + (9 : Int32)))
else
 (some (0 : Int32)))
else if (x16 &&& (63 : Int32)) = (9 : Int32) then
 (sldI L xs (v4 + (1 : Int32)) fun x111 =>
bnd2 (f_X1_end σ x111) fun σ112 x113 =>
sldI L xs (v4 + (1 : Int32)) fun x114 =>
bnd2 (f_X6_end σ112 x114) fun σ115 x116 =>
if x113 = x116 then
 (f_L_law_L23 L xs n σ115 τ1 (v4 + (9 : Int32)))
else
 (some (0 : Int32)))
else if (x16 &&& (63 : Int32)) = (10 : Int32) then
 (bndL (f_X1_fault σ τ1) fun σ118 τ118 x119 =>
bnd2 (f_X6_fault σ118) fun σ123 x124 =>
if x119 = x124 then
 (f_L_law_L23 L xs n σ123 τ118 (v4 + (9 : Int32)))
else
 (some (0 : Int32)))
else if (x16 &&& (63 : Int32)) = (11 : Int32) then
 (bndL (f_X1_rules σ τ1) fun σ126 τ126 x127 =>
bnd2 (f_X6_rules σ126) fun σ131 x132 =>
if x127 = x132 then
 (f_L_law_L23 L xs n σ131 τ126 (v4 + (9 : Int32)))
else
 (some (0 : Int32)))
else if (x16 &&& (63 : Int32)) = (12 : Int32) then
 (sldI L xs (v4 + (1 : Int32)) fun x134 =>
sldI L xs (v4 + (2 : Int32)) fun x135 =>
bnd2 (f_X1_rule σ x134 x135) fun σ136 x137 =>
sldI L xs (v4 + (1 : Int32)) fun x138 =>
sldI L xs (v4 + (2 : Int32)) fun x139 =>
bnd2 (f_X6_rule σ136 x138 x139) fun σ140 x141 =>
if x137 = x141 then
 (f_L_law_L23 L xs n σ140 τ1 (v4 + (9 : Int32)))
else
 (some (0 : Int32)))
else if (x16 &&& (63 : Int32)) = (13 : Int32) then
 (sldI L xs (v4 + (1 : Int32)) fun x143 =>
sldI L xs (v4 + (2 : Int32)) fun x144 =>
sldI L xs (v4 + (3 : Int32)) fun x145 =>
sldI L xs (v4 + (4 : Int32)) fun x146 =>
sldI L xs (v4 + (5 : Int32)) fun x147 =>
sldI L xs (v4 + (6 : Int32)) fun x148 =>
sldI L xs (v4 + (7 : Int32)) fun x149 =>
sldI L xs (v4 + (8 : Int32)) fun x150 =>
bndL (f_X0_worth σ τ1 x143 x144 x145 x146 x147 x148 x149 x150) fun σ151 τ151 x152 =>
sldI L xs (v4 + (1 : Int32)) fun x156 =>
sldI L xs (v4 + (2 : Int32)) fun x157 =>
sldI L xs (v4 + (3 : Int32)) fun x158 =>
sldI L xs (v4 + (4 : Int32)) fun x159 =>
sldI L xs (v4 + (5 : Int32)) fun x160 =>
sldI L xs (v4 + (6 : Int32)) fun x161 =>
sldI L xs (v4 + (7 : Int32)) fun x162 =>
sldI L xs (v4 + (8 : Int32)) fun x163 =>
bnd2 (f_X6_worth σ151 x156 x157 x158 x159 x160 x161 x162 x163) fun σ164 x165 =>
bnd (f_X6_thrown σ164) fun x166 =>
if x166 = x152 then
 (if x152 = 0 then
 (rdL σ164 300 1 (0 : Int32) fun y169 =>
if y169 = (x165).toInt64 then
 (f_L_law_L23 L xs n σ164 τ151 (v4 + (9 : Int32)))
else
 (some (0 : Int32)))
else
 (f_L_law_L23 L xs n σ164 τ151 (v4 + (9 : Int32))))
else
 (some (0 : Int32)))
else if (x16 &&& (63 : Int32)) = (14 : Int32) then
 (sldI L xs (v4 + (1 : Int32)) fun x171 =>
bnd2 (f_X1_stream σ x171) fun σ172 x173 =>
sldI L xs (v4 + (1 : Int32)) fun x174 =>
bnd2 (f_X6_stream σ172 x174) fun σ175 x176 =>
if x173 = x176 then
 (f_L_law_L23 L xs n σ175 τ1 (v4 + (9 : Int32)))
else
 (some (0 : Int32)))
else if (x16 &&& (63 : Int32)) = (15 : Int32) then
 (sldI L xs (v4 + (1 : Int32)) fun x178 =>
sldI L xs (v4 + (2 : Int32)) fun x179 =>
bnd2 (f_X1_come σ x178 x179) fun σ180 x181 =>
sldI L xs (v4 + (1 : Int32)) fun x182 =>
sldI L xs (v4 + (2 : Int32)) fun x183 =>
bnd2 (f_X6_come σ180 x182 x183) fun σ184 x185 =>
if x181 = x185 then
 (f_L_law_L23 L xs n σ184 τ1 (v4 + (9 : Int32)))
else
 (some (0 : Int32)))
else if (x16 &&& (63 : Int32)) = (16 : Int32) then
 (sldI L xs (v4 + (1 : Int32)) fun x187 =>
bnd2 (f_X1_hours σ (sS τ1) x187) fun σ188 x189 =>
sldI L xs (v4 + (1 : Int32)) fun x190 =>
bnd2 (f_X6_hours σ188 x190) fun σ191 x192 =>
if x189 = x192 then
 (f_L_law_L23 L xs n σ191 τ1 (v4 + (9 : Int32)))
else
 (some (0 : Int32)))
else if (x16 &&& (63 : Int32)) = (17 : Int32) then
 (sldI L xs (v4 + (1 : Int32)) fun x194 =>
sldI L xs (v4 + (2 : Int32)) fun x195 =>
bnd2 (f_X1_hand σ x194 x195) fun σ196 x197 =>
sldI L xs (v4 + (1 : Int32)) fun x198 =>
sldI L xs (v4 + (2 : Int32)) fun x199 =>
bnd2 (f_X6_hand σ196 x198 x199) fun σ200 x201 =>
if x197 = x201 then
 (f_L_law_L23 L xs n σ200 τ1 (v4 + (9 : Int32)))
else
 (some (0 : Int32)))
else if (x16 &&& (63 : Int32)) = (18 : Int32) then
 (sldI L xs (v4 + (1 : Int32)) fun x203 =>
sldI L xs (v4 + (2 : Int32)) fun x204 =>
sldI L xs (v4 + (3 : Int32)) fun x205 =>
bnd (f_X1_history σ x203 x204 x205) fun x206 =>
sldI L xs (v4 + (1 : Int32)) fun x207 =>
sldI L xs (v4 + (2 : Int32)) fun x208 =>
sldI L xs (v4 + (3 : Int32)) fun x209 =>
bnd (f_X6_history σ x207 x208 x209) fun x210 =>
if x206 = x210 then
 (f_L_law_L23 L xs n σ τ1 (v4 + (9 : Int32)))
else
 (some (0 : Int32)))
else if (x16 &&& (63 : Int32)) = (19 : Int32) then
 (sldI L xs (v4 + (1 : Int32)) fun x212 =>
sldI L xs (v4 + (2 : Int32)) fun x213 =>
bnd (f_X1_breaks σ x212 x213) fun x214 =>
sldI L xs (v4 + (1 : Int32)) fun x215 =>
sldI L xs (v4 + (2 : Int32)) fun x216 =>
bnd (f_X6_breaks σ x215 x216) fun x217 =>
if x214 = x217 then
 (f_L_law_L23 L xs n σ τ1 (v4 + (9 : Int32)))
else
 (some (0 : Int32)))
else if (x16 &&& (63 : Int32)) = (20 : Int32) then
 (sldI L xs (v4 + (1 : Int32)) fun x219 =>
bnd (f_X1_ripe σ x219) fun x220 =>
sldI L xs (v4 + (1 : Int32)) fun x221 =>
bnd (f_X6_ripe σ x221) fun x222 =>
if x220 = x222 then
 (f_L_law_L23 L xs n σ τ1 (v4 + (9 : Int32)))
else
 (some (0 : Int32)))
else if (x16 &&& (63 : Int32)) = (21 : Int32) then
 (sldI L xs (v4 + (1 : Int32)) fun x224 =>
sldI L xs (v4 + (2 : Int32)) fun x225 =>
sldI L xs (v4 + (3 : Int32)) fun x226 =>
sldI L xs (v4 + (4 : Int32)) fun x227 =>
bnd (f_X1_share σ x224 x225 x226 x227) fun y228 =>
sldI L xs (v4 + (1 : Int32)) fun x229 =>
sldI L xs (v4 + (2 : Int32)) fun x230 =>
sldI L xs (v4 + (3 : Int32)) fun x231 =>
sldI L xs (v4 + (4 : Int32)) fun x232 =>
bnd (f_X6_share σ x229 x230 x231 x232) fun y233 =>
if y228 = y233 then
 (f_L_law_L23 L xs n σ τ1 (v4 + (9 : Int32)))
else
 (some (0 : Int32)))
else if (x16 &&& (63 : Int32)) = (22 : Int32) then
 (sldI L xs (v4 + (1 : Int32)) fun x235 =>
sldI L xs (v4 + (2 : Int32)) fun x236 =>
sldI L xs (v4 + (3 : Int32)) fun x237 =>
bnd (f_X1_drops σ x235 x236 x237) fun x238 =>
sldI L xs (v4 + (1 : Int32)) fun x239 =>
sldI L xs (v4 + (2 : Int32)) fun x240 =>
sldI L xs (v4 + (3 : Int32)) fun x241 =>
bnd (f_X6_drops σ x239 x240 x241) fun x242 =>
if x238 = x242 then
 (f_L_law_L23 L xs n σ τ1 (v4 + (9 : Int32)))
else
 (some (0 : Int32)))
else if (x16 &&& (63 : Int32)) = (23 : Int32) then
 (sldI L xs (v4 + (1 : Int32)) fun x244 =>
sldI L xs (v4 + (2 : Int32)) fun x245 =>
bnd2 (f_X1_layer σ x244 x245) fun σ246 x247 =>
sldI L xs (v4 + (1 : Int32)) fun x248 =>
sldI L xs (v4 + (2 : Int32)) fun x249 =>
bnd2 (f_X6_layer σ246 x248 x249) fun σ250 x251 =>
if x247 = x251 then
 (f_L_law_L23 L xs n σ250 τ1 (v4 + (9 : Int32)))
else
 (some (0 : Int32)))
else if (x16 &&& (63 : Int32)) = (24 : Int32) then
 (sldI L xs (v4 + (1 : Int32)) fun x253 =>
sldI L xs (v4 + (2 : Int32)) fun x254 =>
bndL (f_X1_order σ τ1 x253 x254) fun σ255 τ255 x256 =>
sldI L xs (v4 + (1 : Int32)) fun x260 =>
sldI L xs (v4 + (2 : Int32)) fun x261 =>
bnd2 (f_X6_order σ255 x260 x261) fun σ262 x263 =>
if x256 = x263 then
 (f_L_law_L23 L xs n σ262 τ255 (v4 + (9 : Int32)))
else
 (some (0 : Int32)))
else if (x16 &&& (63 : Int32)) = (25 : Int32) then
 (sldI L xs (v4 + (1 : Int32)) fun x265 =>
sldI L xs (v4 + (2 : Int32)) fun x266 =>
bnd2 (f_X1_cost σ x265 x266) fun σ267 x268 =>
sldI L xs (v4 + (1 : Int32)) fun x269 =>
sldI L xs (v4 + (2 : Int32)) fun x270 =>
bnd2 (f_X6_cost σ267 x269 x270) fun σ271 x272 =>
if x268 = x272 then
 (f_L_law_L23 L xs n σ271 τ1 (v4 + (9 : Int32)))
else
 (some (0 : Int32)))
else if (x16 &&& (63 : Int32)) = (26 : Int32) then
 (sldI L xs (v4 + (1 : Int32)) fun x274 =>
sldI L xs (v4 + (2 : Int32)) fun x275 =>
sldI L xs (v4 + (3 : Int32)) fun x276 =>
bnd2 (f_X1_cheapest σ x274 x275 x276) fun σ277 x278 =>
sldI L xs (v4 + (1 : Int32)) fun x279 =>
sldI L xs (v4 + (2 : Int32)) fun x280 =>
sldI L xs (v4 + (3 : Int32)) fun x281 =>
bnd2 (f_X6_cheapest σ277 x279 x280 x281) fun σ282 x283 =>
if x278 = x283 then
 (f_L_law_L23 L xs n σ282 τ1 (v4 + (9 : Int32)))
else
 (some (0 : Int32)))
else if (x16 &&& (63 : Int32)) = (27 : Int32) then
 (sldI L xs (v4 + (1 : Int32)) fun x285 =>
sldI L xs (v4 + (2 : Int32)) fun x286 =>
sldI L xs (v4 + (3 : Int32)) fun x287 =>
sldI L xs (v4 + (4 : Int32)) fun x288 =>
bnd2 (f_X1_gauge σ x285 x286 x287 x288) fun σ289 x290 =>
sldI L xs (v4 + (1 : Int32)) fun x291 =>
sldI L xs (v4 + (2 : Int32)) fun x292 =>
sldI L xs (v4 + (3 : Int32)) fun x293 =>
sldI L xs (v4 + (4 : Int32)) fun x294 =>
bnd2 (f_X6_gauge σ289 x291 x292 x293 x294) fun σ295 x296 =>
if x290 = x296 then
 (f_L_law_L23 L xs n σ295 τ1 (v4 + (9 : Int32)))
else
 (some (0 : Int32)))
else if (x16 &&& (63 : Int32)) = (28 : Int32) then
 (sldI L xs (v4 + (1 : Int32)) fun x298 =>
sldI L xs (v4 + (2 : Int32)) fun x299 =>
sldI L xs (v4 + (3 : Int32)) fun x300 =>
sldI L xs (v4 + (4 : Int32)) fun x301 =>
bnd (f_X1_back σ x298 x299 x300 x301) fun x302 =>
sldI L xs (v4 + (1 : Int32)) fun x303 =>
sldI L xs (v4 + (2 : Int32)) fun x304 =>
sldI L xs (v4 + (3 : Int32)) fun x305 =>
sldI L xs (v4 + (4 : Int32)) fun x306 =>
bnd (f_X6_back σ x303 x304 x305 x306) fun x307 =>
if x302 = x307 then
 (f_L_law_L23 L xs n σ τ1 (v4 + (9 : Int32)))
else
 (some (0 : Int32)))
else if (x16 &&& (63 : Int32)) = (29 : Int32) then
 (sldI L xs (v4 + (1 : Int32)) fun x309 =>
sldI L xs (v4 + (2 : Int32)) fun x310 =>
sldI L xs (v4 + (3 : Int32)) fun x311 =>
bnd (f_X1_barred σ x309 x310 x311) fun x312 =>
sldI L xs (v4 + (1 : Int32)) fun x313 =>
sldI L xs (v4 + (2 : Int32)) fun x314 =>
sldI L xs (v4 + (3 : Int32)) fun x315 =>
bnd (f_X6_barred σ x313 x314 x315) fun x316 =>
if x312 = x316 then
 (f_L_law_L23 L xs n σ τ1 (v4 + (9 : Int32)))
else
 (some (0 : Int32)))
else if (x16 &&& (63 : Int32)) = (30 : Int32) then
 (sldI L xs (v4 + (1 : Int32)) fun x318 =>
sldI L xs (v4 + (2 : Int32)) fun x319 =>
bnd (f_X1_led σ x318 x319) fun x320 =>
sldI L xs (v4 + (1 : Int32)) fun x321 =>
sldI L xs (v4 + (2 : Int32)) fun x322 =>
bnd (f_X6_led σ x321 x322) fun x323 =>
if x320 = x323 then
 (f_L_law_L23 L xs n σ τ1 (v4 + (9 : Int32)))
else
 (some (0 : Int32)))
else if (x16 &&& (63 : Int32)) = (31 : Int32) then
 (bnd (f_X1_digest σ) fun x325 =>
bnd (f_X6_digest σ) fun x326 =>
if x325 = x326 then
 (f_L_law_L23 L xs n σ τ1 (v4 + (9 : Int32)))
else
 (some (0 : Int32)))
else if (x16 &&& (63 : Int32)) = (32 : Int32) then
 (sldI L xs (v4 + (1 : Int32)) fun x328 =>
bnd (f_X1_count σ x328) fun x329 =>
sldI L xs (v4 + (1 : Int32)) fun x330 =>
bnd (f_X6_count σ x330) fun x331 =>
if x329 = x331 then
 (f_L_law_L23 L xs n σ τ1 (v4 + (9 : Int32)))
else
 (some (0 : Int32)))
else 
 (f_L_law_L23 L xs n σ τ1 (v4 + (9 : Int32)))))
def f_L_law (L : Nat) (xs : Nat → Int32) (σ0 : Mem) (τ0 : Shp) : Option Int32 :=
 (newO σ0 τ0 0 (10, 1) 39 fun σ1 τ1 =>
bndL (f_X1_init σ1 τ1) fun σ3 τ3 _ =>
gd (isSh (sS τ3) 0 [(10, 0)]) <|
newO σ3 τ3 200 (24, 1) 63 fun σ5 τ5 =>
bndL (f_X6_init σ5 τ5) fun σ8 τ8 _ =>
gd (isSh (sS τ8) 200 [(24, 0)]) <|
newO σ8 τ8 300 (4, 1) 1 fun σ11 τ11 =>
f_L_law_L23 L xs  FU σ11 τ11 (0 : Int32))
