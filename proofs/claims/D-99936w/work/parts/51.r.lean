set_option maxRecDepth 100000
set_option maxHeartbeats 4000000
def f_X2_line (N : Nat) (LC LZ : Nat) (p0 : Nat) (M : Mem) : Option ((Mem) ⊕ (Nat × Mem)) :=
gd (mT M p0 = 1) (
gd (mN M ≤ LC ∧ mZ M ≤ LZ) (
bd (f_X2_isWord p0 0 6 M) fun (r_4 : Int32) =>
if r_4 = 0 then (
gd (mN M ≤ LC ∧ mZ M ≤ LZ) (
bd2 (f_X2_wrong LC LZ p0 1 M) fun (r_9 : Nat) (M_8 : Mem) =>
gd (mT M_8 r_9 = 16) (
gd (mN M_8 ≤ LC ∧ mZ M_8 ≤ LZ) (
some (Sum.inr (r_9, M_8))))))
else (
be (fun (u_14 : Unit) =>
gd (mT M p0 = 1) (
be (mI M p0 4) fun (x1_16 : Int32) =>
gd (mN M ≤ LC ∧ mZ M ≤ LZ) (
bd (f_X2_isFull p0 x1_16 M) fun (r_19 : Int32) =>
if r_19 = 0 then (
be (fun (u_23 : Unit) =>
gd (mT M p0 = 1) (
if ((mI M p0 6) >>> (x1_16 &&& 31)) &&& 1 = 1 then (
gd (mN M ≤ LC ∧ mZ M ≤ LZ) (
bd2 (f_X2_wrong LC LZ p0 3 M) fun (r_243 : Nat) (M_242 : Mem) =>
gd (mT M_242 r_243 = 16) (
gd (mN M_242 ≤ LC ∧ mZ M_242 ≤ LZ) (
some (Sum.inr (r_243, M_242))))))
else (
be (sI M p0 6 ((mI M p0 6) ||| (1 <<< (x1_16 &&& 31)))) fun (M_26 : Mem) =>
gd (mN M_26 ≤ LC ∧ mZ M_26 ≤ LZ) (
bd (f_X2_next N p0 M_26) fun (M_30 : Mem) =>
be (fun (M_31 : Mem) =>
gd (mT M_31 p0 = 1) (
gd (mN M_31 ≤ LC ∧ mZ M_31 ≤ LZ) (
bd (f_X2_isSign p0 59 M_31) fun (r_37 : Int32) =>
if r_37 = 0 then (
gd (mN M_31 ≤ LC ∧ mZ M_31 ≤ LZ) (
bd2 (f_X2_wrong LC LZ p0 1 M_31) fun (r_53 : Nat) (M_52 : Mem) =>
gd (mT M_52 r_53 = 16) (
gd (mN M_52 ≤ LC ∧ mZ M_52 ≤ LZ) (
some (Sum.inr (r_53, M_52))))))
else (
gd (mN M_31 ≤ LC ∧ mZ M_31 ≤ LZ) (
bd (f_X2_next N p0 M_31) fun (M_41 : Mem) =>
gd (mT M_41 p0 = 1) (
bd (mR M_41 p0 7) fun (a_43 : Nat) =>
gd (mT M_41 a_43 = 2) (
be (sI M_41 a_43 8 ((mI M_41 a_43 8) + 1)) fun (M_46 : Mem) =>
gd (mN M_46 ≤ LC ∧ mZ M_46 ≤ LZ) (
some (Sum.inl M_46))))))))) fun (k_32 : Mem → Option ((Mem) ⊕ (Nat × Mem))) =>
if x1_16 = 0 then (
gd (mT M_30 p0 = 1) (
bd (mR M_30 p0 7) fun (a_58 : Nat) =>
gd (mN M_30 ≤ LC ∧ mZ M_30 ≤ LZ) (
bt (f_X2_number N LC LZ p0 2 60 M_30) (fun (r_63 : Int32) (M_62 : Mem) =>
gd (mT M_62 a_58 = 2) (
be (sI M_62 a_58 4 r_63) fun (M_71 : Mem) =>
k_32 M_71)) (fun (q_68 : Nat) (M_69 : Mem) => some (Sum.inr (q_68, M_69))))))
else (
if x1_16 = 1 then (
gd (mT M_30 p0 = 1) (
gd (mN M_30 ≤ LC ∧ mZ M_30 ≤ LZ) (
btv (f_X2_trough N LC LZ p0 M_30) (fun (M_77 : Mem) =>
k_32 M_77) (fun (q_82 : Nat) (M_83 : Mem) => some (Sum.inr (q_82, M_83))))))
else (
if x1_16 = 2 then (
gd (mT M_30 p0 = 1) (
gd (mN M_30 ≤ LC ∧ mZ M_30 ≤ LZ) (
btv (f_X2_horse N LC LZ p0 M_30) (fun (M_88 : Mem) =>
k_32 M_88) (fun (q_93 : Nat) (M_94 : Mem) => some (Sum.inr (q_93, M_94))))))
else (
if x1_16 = 3 then (
gd (mT M_30 p0 = 1) (
bd (mR M_30 p0 7) fun (a_97 : Nat) =>
gd (mT M_30 a_97 = 2) (
bd (mR M_30 a_97 1) fun (a_100 : Nat) =>
gd (mN M_30 ≤ LC ∧ mZ M_30 ≤ LZ) (
bt (f_X2_ahead N LC LZ p0 a_100 M_30) (fun (r_105 : Int32) (M_104 : Mem) =>
gd (mT M_104 p0 = 1) (
bd (mR M_104 p0 7) fun (a_113 : Nat) =>
gd (mT M_104 a_113 = 2) (
bd (mR M_104 a_113 0) fun (a_116 : Nat) =>
gd (mN M_104 ≤ LC ∧ mZ M_104 ≤ LZ) (
bt (f_X2_ahead N LC LZ p0 a_116 M_104) (fun (r_121 : Int32) (M_120 : Mem) =>
gd (mT M_120 p0 = 1) (
bd (mR M_120 p0 7) fun (a_129 : Nat) =>
gd (mT M_120 a_129 = 2) (
bd (mR M_120 a_129 2) fun (a_132 : Nat) =>
gd (mN M_120 + 1 ≤ LC ∧ mZ M_120 + 3 ≤ LZ) (
be (nw M_120 9 3) fun (M_135 : Mem) =>
gd (mT M_135 p0 = 1) (
gd (mN M_135 ≤ LC ∧ mZ M_135 ≤ LZ) (
bt (f_X2_number N LC LZ p0 0 99 M_135) (fun (r_140 : Int32) (M_139 : Mem) =>
gd (mN M_139 ≤ LC ∧ mZ M_139 ≤ LZ) (
bd (f_X13_init (mN M_120) r_105 r_121 r_140 M_139) fun (M_149 : Mem) =>
gd (mT M_149 a_132 = 3) (
gd (mN M_149 ≤ LC ∧ mZ M_149 ≤ LZ) (
bd2 (f_J2_add a_132 (mN M_120) M_149) fun (r_154 : Int32) (M_153 : Mem) =>
k_32 M_153)))) (fun (q_145 : Nat) (M_146 : Mem) => some (Sum.inr (q_145, M_146))))))))) (fun (q_126 : Nat) (M_127 : Mem) => some (Sum.inr (q_126, M_127))))))) (fun (q_110 : Nat) (M_111 : Mem) => some (Sum.inr (q_110, M_111)))))))
else (
if x1_16 = 4 then (
gd (mT M_30 p0 = 1) (
bd (mR M_30 p0 7) fun (a_157 : Nat) =>
gd (mN M_30 ≤ LC ∧ mZ M_30 ≤ LZ) (
bt (f_X2_number N LC LZ p0 0 100 M_30) (fun (r_162 : Int32) (M_161 : Mem) =>
gd (mT M_161 a_157 = 2) (
be (sI M_161 a_157 5 r_162) fun (M_170 : Mem) =>
k_32 M_170)) (fun (q_167 : Nat) (M_168 : Mem) => some (Sum.inr (q_167, M_168))))))
else (
if x1_16 = 5 then (
gd (mT M_30 p0 = 1) (
bd (mR M_30 p0 7) fun (a_174 : Nat) =>
gd (mN M_30 ≤ LC ∧ mZ M_30 ≤ LZ) (
bt (f_X2_number N LC LZ p0 0 99999 M_30) (fun (r_179 : Int32) (M_178 : Mem) =>
gd (mT M_178 a_174 = 2) (
be (sI M_178 a_174 6 r_179) fun (M_187 : Mem) =>
k_32 M_187)) (fun (q_184 : Nat) (M_185 : Mem) => some (Sum.inr (q_184, M_185))))))
else (
gd (mT M_30 p0 = 1) (
gd (mN M_30 ≤ LC ∧ mZ M_30 ≤ LZ) (
bd (f_X2_isWord p0 7 9 M_30) fun (r_192 : Int32) =>
if r_192 = 0 then (
gd (mN M_30 ≤ LC ∧ mZ M_30 ≤ LZ) (
bd2 (f_X2_wrong LC LZ p0 1 M_30) fun (r_237 : Nat) (M_236 : Mem) =>
gd (mT M_236 r_237 = 16) (
gd (mN M_236 ≤ LC ∧ mZ M_236 ≤ LZ) (
some (Sum.inr (r_237, M_236))))))
else (
be ((mI M_30 p0 4) - 7) fun (x4_194 : Int32) =>
bd (mR M_30 p0 7) fun (a_195 : Nat) =>
gd (mT M_30 a_195 = 2) (
bd (mR M_30 a_195 3) fun (a_198 : Nat) =>
gd (mT M_30 a_198 = 105) (
gd (inb x4_194 (mLn M_30 a_198)) (
if mR M_30 a_198 (Int32.toNatClampNeg x4_194) = none then (
gd (mN M_30 ≤ LC ∧ mZ M_30 ≤ LZ) (
bd (f_X2_next N p0 M_30) fun (M_205 : Mem) =>
gd (mT M_205 p0 = 1) (
bd (mR M_205 p0 7) fun (a_207 : Nat) =>
gd (mT M_205 a_207 = 2) (
bd (mR M_205 a_207 3) fun (a_210 : Nat) =>
gd (mN M_205 ≤ LC ∧ mZ M_205 ≤ LZ) (
bt (f_X2_orT N LC LZ p0 M_205) (fun (r_215 : Nat) (M_214 : Mem) =>
gd (mT M_214 a_210 = 105) (
gd (inb x4_194 (mLn M_214 a_210)) (
gd (mT M_214 r_215 = 10 ∨ mT M_214 r_215 = 11 ∨ mT M_214 r_215 = 12 ∨ mT M_214 r_215 = 13) (
be (sR M_214 a_210 (Int32.toNatClampNeg x4_194) (some r_215)) fun (M_225 : Mem) =>
k_32 M_225)))) (fun (q_220 : Nat) (M_221 : Mem) => some (Sum.inr (q_220, M_221))))))))
else (
gd (mN M_30 ≤ LC ∧ mZ M_30 ≤ LZ) (
bd2 (f_X2_wrong LC LZ p0 3 M_30) fun (r_231 : Nat) (M_230 : Mem) =>
gd (mT M_230 r_231 = 16) (
gd (mN M_230 ≤ LC ∧ mZ M_230 ≤ LZ) (
some (Sum.inr (r_231, M_230)))))))))))))))))))))) fun (k_21 : Unit → Option ((Mem) ⊕ (Nat × Mem))) =>
if x1_16 = 4 then (
k_21 (()))
else (
if x1_16 = 5 then (
k_21 (()))
else (
be (sI M p0 6 ((mI M p0 6) ||| (1 <<< (x1_16 &&& 31)))) fun (M_248 : Mem) =>
gd (mN M_248 ≤ LC ∧ mZ M_248 ≤ LZ) (
bd (f_X2_next N p0 M_248) fun (M_252 : Mem) =>
if x1_16 = 0 then (
gd (mT M_252 p0 = 1) (
bd (mR M_252 p0 7) fun (a_255 : Nat) =>
gd (mN M_252 ≤ LC ∧ mZ M_252 ≤ LZ) (
bt (f_X2_number N LC LZ p0 2 60 M_252) (fun (r_260 : Int32) (M_259 : Mem) =>
gd (mT M_259 a_255 = 2) (
be (sI M_259 a_255 4 r_260) fun (M_268 : Mem) =>
gd (mT M_268 p0 = 1) (
gd (mN M_268 ≤ LC ∧ mZ M_268 ≤ LZ) (
bd (f_X2_isSign p0 59 M_268) fun (r_273 : Int32) =>
if r_273 = 0 then (
gd (mN M_268 ≤ LC ∧ mZ M_268 ≤ LZ) (
bd2 (f_X2_wrong LC LZ p0 1 M_268) fun (r_289 : Nat) (M_288 : Mem) =>
gd (mT M_288 r_289 = 16) (
gd (mN M_288 ≤ LC ∧ mZ M_288 ≤ LZ) (
some (Sum.inr (r_289, M_288))))))
else (
gd (mN M_268 ≤ LC ∧ mZ M_268 ≤ LZ) (
bd (f_X2_next N p0 M_268) fun (M_277 : Mem) =>
gd (mT M_277 p0 = 1) (
bd (mR M_277 p0 7) fun (a_279 : Nat) =>
gd (mT M_277 a_279 = 2) (
be (sI M_277 a_279 8 ((mI M_277 a_279 8) + 1)) fun (M_282 : Mem) =>
gd (mN M_282 ≤ LC ∧ mZ M_282 ≤ LZ) (
some (Sum.inl M_282)))))))))) (fun (q_265 : Nat) (M_266 : Mem) => some (Sum.inr (q_265, M_266))))))
else (
if x1_16 = 1 then (
gd (mT M_252 p0 = 1) (
gd (mN M_252 ≤ LC ∧ mZ M_252 ≤ LZ) (
btv (f_X2_trough N LC LZ p0 M_252) (fun (M_296 : Mem) =>
gd (mT M_296 p0 = 1) (
gd (mN M_296 ≤ LC ∧ mZ M_296 ≤ LZ) (
bd (f_X2_isSign p0 59 M_296) fun (r_306 : Int32) =>
if r_306 = 0 then (
gd (mN M_296 ≤ LC ∧ mZ M_296 ≤ LZ) (
bd2 (f_X2_wrong LC LZ p0 1 M_296) fun (r_322 : Nat) (M_321 : Mem) =>
gd (mT M_321 r_322 = 16) (
gd (mN M_321 ≤ LC ∧ mZ M_321 ≤ LZ) (
some (Sum.inr (r_322, M_321))))))
else (
gd (mN M_296 ≤ LC ∧ mZ M_296 ≤ LZ) (
bd (f_X2_next N p0 M_296) fun (M_310 : Mem) =>
gd (mT M_310 p0 = 1) (
bd (mR M_310 p0 7) fun (a_312 : Nat) =>
gd (mT M_310 a_312 = 2) (
be (sI M_310 a_312 8 ((mI M_310 a_312 8) + 1)) fun (M_315 : Mem) =>
gd (mN M_315 ≤ LC ∧ mZ M_315 ≤ LZ) (
some (Sum.inl M_315))))))))) (fun (q_301 : Nat) (M_302 : Mem) => some (Sum.inr (q_301, M_302))))))
else (
if x1_16 = 2 then (
gd (mT M_252 p0 = 1) (
gd (mN M_252 ≤ LC ∧ mZ M_252 ≤ LZ) (
btv (f_X2_horse N LC LZ p0 M_252) (fun (M_329 : Mem) =>
gd (mT M_329 p0 = 1) (
gd (mN M_329 ≤ LC ∧ mZ M_329 ≤ LZ) (
bd (f_X2_isSign p0 59 M_329) fun (r_339 : Int32) =>
if r_339 = 0 then (
gd (mN M_329 ≤ LC ∧ mZ M_329 ≤ LZ) (
bd2 (f_X2_wrong LC LZ p0 1 M_329) fun (r_355 : Nat) (M_354 : Mem) =>
gd (mT M_354 r_355 = 16) (
gd (mN M_354 ≤ LC ∧ mZ M_354 ≤ LZ) (
some (Sum.inr (r_355, M_354))))))
else (
gd (mN M_329 ≤ LC ∧ mZ M_329 ≤ LZ) (
bd (f_X2_next N p0 M_329) fun (M_343 : Mem) =>
gd (mT M_343 p0 = 1) (
bd (mR M_343 p0 7) fun (a_345 : Nat) =>
gd (mT M_343 a_345 = 2) (
be (sI M_343 a_345 8 ((mI M_343 a_345 8) + 1)) fun (M_348 : Mem) =>
gd (mN M_348 ≤ LC ∧ mZ M_348 ≤ LZ) (
some (Sum.inl M_348))))))))) (fun (q_334 : Nat) (M_335 : Mem) => some (Sum.inr (q_334, M_335))))))
else (
if x1_16 = 3 then (
gd (mT M_252 p0 = 1) (
bd (mR M_252 p0 7) fun (a_360 : Nat) =>
gd (mT M_252 a_360 = 2) (
bd (mR M_252 a_360 1) fun (a_363 : Nat) =>
gd (mN M_252 ≤ LC ∧ mZ M_252 ≤ LZ) (
bt (f_X2_ahead N LC LZ p0 a_363 M_252) (fun (r_368 : Int32) (M_367 : Mem) =>
gd (mT M_367 p0 = 1) (
bd (mR M_367 p0 7) fun (a_376 : Nat) =>
gd (mT M_367 a_376 = 2) (
bd (mR M_367 a_376 0) fun (a_379 : Nat) =>
gd (mN M_367 ≤ LC ∧ mZ M_367 ≤ LZ) (
bt (f_X2_ahead N LC LZ p0 a_379 M_367) (fun (r_384 : Int32) (M_383 : Mem) =>
gd (mT M_383 p0 = 1) (
bd (mR M_383 p0 7) fun (a_392 : Nat) =>
gd (mT M_383 a_392 = 2) (
bd (mR M_383 a_392 2) fun (a_395 : Nat) =>
gd (mN M_383 + 1 ≤ LC ∧ mZ M_383 + 3 ≤ LZ) (
be (nw M_383 9 3) fun (M_398 : Mem) =>
gd (mT M_398 p0 = 1) (
gd (mN M_398 ≤ LC ∧ mZ M_398 ≤ LZ) (
bt (f_X2_number N LC LZ p0 0 99 M_398) (fun (r_403 : Int32) (M_402 : Mem) =>
gd (mN M_402 ≤ LC ∧ mZ M_402 ≤ LZ) (
bd (f_X13_init (mN M_383) r_368 r_384 r_403 M_402) fun (M_412 : Mem) =>
gd (mT M_412 a_395 = 3) (
gd (mN M_412 ≤ LC ∧ mZ M_412 ≤ LZ) (
bd2 (f_J2_add a_395 (mN M_383) M_412) fun (r_417 : Int32) (M_416 : Mem) =>
gd (mT M_416 p0 = 1) (
gd (mN M_416 ≤ LC ∧ mZ M_416 ≤ LZ) (
bd (f_X2_isSign p0 59 M_416) fun (r_421 : Int32) =>
if r_421 = 0 then (
gd (mN M_416 ≤ LC ∧ mZ M_416 ≤ LZ) (
bd2 (f_X2_wrong LC LZ p0 1 M_416) fun (r_437 : Nat) (M_436 : Mem) =>
gd (mT M_436 r_437 = 16) (
gd (mN M_436 ≤ LC ∧ mZ M_436 ≤ LZ) (
some (Sum.inr (r_437, M_436))))))
else (
gd (mN M_416 ≤ LC ∧ mZ M_416 ≤ LZ) (
bd (f_X2_next N p0 M_416) fun (M_425 : Mem) =>
gd (mT M_425 p0 = 1) (
bd (mR M_425 p0 7) fun (a_427 : Nat) =>
gd (mT M_425 a_427 = 2) (
be (sI M_425 a_427 8 ((mI M_425 a_427 8) + 1)) fun (M_430 : Mem) =>
gd (mN M_430 ≤ LC ∧ mZ M_430 ≤ LZ) (
some (Sum.inl M_430)))))))))))) (fun (q_408 : Nat) (M_409 : Mem) => some (Sum.inr (q_408, M_409))))))))) (fun (q_389 : Nat) (M_390 : Mem) => some (Sum.inr (q_389, M_390))))))) (fun (q_373 : Nat) (M_374 : Mem) => some (Sum.inr (q_373, M_374)))))))
else (
if x1_16 = 4 then (
gd (mT M_252 p0 = 1) (
bd (mR M_252 p0 7) fun (a_442 : Nat) =>
gd (mN M_252 ≤ LC ∧ mZ M_252 ≤ LZ) (
bt (f_X2_number N LC LZ p0 0 100 M_252) (fun (r_447 : Int32) (M_446 : Mem) =>
gd (mT M_446 a_442 = 2) (
be (sI M_446 a_442 5 r_447) fun (M_455 : Mem) =>
gd (mT M_455 p0 = 1) (
gd (mN M_455 ≤ LC ∧ mZ M_455 ≤ LZ) (
bd (f_X2_isSign p0 59 M_455) fun (r_460 : Int32) =>
if r_460 = 0 then (
gd (mN M_455 ≤ LC ∧ mZ M_455 ≤ LZ) (
bd2 (f_X2_wrong LC LZ p0 1 M_455) fun (r_476 : Nat) (M_475 : Mem) =>
gd (mT M_475 r_476 = 16) (
gd (mN M_475 ≤ LC ∧ mZ M_475 ≤ LZ) (
some (Sum.inr (r_476, M_475))))))
else (
gd (mN M_455 ≤ LC ∧ mZ M_455 ≤ LZ) (
bd (f_X2_next N p0 M_455) fun (M_464 : Mem) =>
gd (mT M_464 p0 = 1) (
bd (mR M_464 p0 7) fun (a_466 : Nat) =>
gd (mT M_464 a_466 = 2) (
be (sI M_464 a_466 8 ((mI M_464 a_466 8) + 1)) fun (M_469 : Mem) =>
gd (mN M_469 ≤ LC ∧ mZ M_469 ≤ LZ) (
some (Sum.inl M_469)))))))))) (fun (q_452 : Nat) (M_453 : Mem) => some (Sum.inr (q_452, M_453))))))
else (
if x1_16 = 5 then (
gd (mT M_252 p0 = 1) (
bd (mR M_252 p0 7) fun (a_481 : Nat) =>
gd (mN M_252 ≤ LC ∧ mZ M_252 ≤ LZ) (
bt (f_X2_number N LC LZ p0 0 99999 M_252) (fun (r_486 : Int32) (M_485 : Mem) =>
gd (mT M_485 a_481 = 2) (
be (sI M_485 a_481 6 r_486) fun (M_494 : Mem) =>
gd (mT M_494 p0 = 1) (
gd (mN M_494 ≤ LC ∧ mZ M_494 ≤ LZ) (
bd (f_X2_isSign p0 59 M_494) fun (r_499 : Int32) =>
if r_499 = 0 then (
gd (mN M_494 ≤ LC ∧ mZ M_494 ≤ LZ) (
bd2 (f_X2_wrong LC LZ p0 1 M_494) fun (r_515 : Nat) (M_514 : Mem) =>
gd (mT M_514 r_515 = 16) (
gd (mN M_514 ≤ LC ∧ mZ M_514 ≤ LZ) (
some (Sum.inr (r_515, M_514))))))
else (
gd (mN M_494 ≤ LC ∧ mZ M_494 ≤ LZ) (
bd (f_X2_next N p0 M_494) fun (M_503 : Mem) =>
gd (mT M_503 p0 = 1) (
bd (mR M_503 p0 7) fun (a_505 : Nat) =>
gd (mT M_503 a_505 = 2) (
be (sI M_503 a_505 8 ((mI M_503 a_505 8) + 1)) fun (M_508 : Mem) =>
gd (mN M_508 ≤ LC ∧ mZ M_508 ≤ LZ) (
some (Sum.inl M_508)))))))))) (fun (q_491 : Nat) (M_492 : Mem) => some (Sum.inr (q_491, M_492))))))
else (
gd (mT M_252 p0 = 1) (
gd (mN M_252 ≤ LC ∧ mZ M_252 ≤ LZ) (
bd (f_X2_isWord p0 7 9 M_252) fun (r_521 : Int32) =>
if r_521 = 0 then (
gd (mN M_252 ≤ LC ∧ mZ M_252 ≤ LZ) (
bd2 (f_X2_wrong LC LZ p0 1 M_252) fun (r_588 : Nat) (M_587 : Mem) =>
gd (mT M_587 r_588 = 16) (
gd (mN M_587 ≤ LC ∧ mZ M_587 ≤ LZ) (
some (Sum.inr (r_588, M_587))))))
else (
be ((mI M_252 p0 4) - 7) fun (x4_523 : Int32) =>
bd (mR M_252 p0 7) fun (a_524 : Nat) =>
gd (mT M_252 a_524 = 2) (
bd (mR M_252 a_524 3) fun (a_527 : Nat) =>
gd (mT M_252 a_527 = 105) (
gd (inb x4_523 (mLn M_252 a_527)) (
if mR M_252 a_527 (Int32.toNatClampNeg x4_523) = none then (
gd (mN M_252 ≤ LC ∧ mZ M_252 ≤ LZ) (
bd (f_X2_next N p0 M_252) fun (M_534 : Mem) =>
gd (mT M_534 p0 = 1) (
bd (mR M_534 p0 7) fun (a_536 : Nat) =>
gd (mT M_534 a_536 = 2) (
bd (mR M_534 a_536 3) fun (a_539 : Nat) =>
gd (mN M_534 ≤ LC ∧ mZ M_534 ≤ LZ) (
bt (f_X2_orT N LC LZ p0 M_534) (fun (r_544 : Nat) (M_543 : Mem) =>
gd (mT M_543 a_539 = 105) (
gd (inb x4_523 (mLn M_543 a_539)) (
gd (mT M_543 r_544 = 10 ∨ mT M_543 r_544 = 11 ∨ mT M_543 r_544 = 12 ∨ mT M_543 r_544 = 13) (
be (sR M_543 a_539 (Int32.toNatClampNeg x4_523) (some r_544)) fun (M_554 : Mem) =>
gd (mT M_554 p0 = 1) (
gd (mN M_554 ≤ LC ∧ mZ M_554 ≤ LZ) (
bd (f_X2_isSign p0 59 M_554) fun (r_560 : Int32) =>
if r_560 = 0 then (
gd (mN M_554 ≤ LC ∧ mZ M_554 ≤ LZ) (
bd2 (f_X2_wrong LC LZ p0 1 M_554) fun (r_576 : Nat) (M_575 : Mem) =>
gd (mT M_575 r_576 = 16) (
gd (mN M_575 ≤ LC ∧ mZ M_575 ≤ LZ) (
some (Sum.inr (r_576, M_575))))))
else (
gd (mN M_554 ≤ LC ∧ mZ M_554 ≤ LZ) (
bd (f_X2_next N p0 M_554) fun (M_564 : Mem) =>
gd (mT M_564 p0 = 1) (
bd (mR M_564 p0 7) fun (a_566 : Nat) =>
gd (mT M_564 a_566 = 2) (
be (sI M_564 a_566 8 ((mI M_564 a_566 8) + 1)) fun (M_569 : Mem) =>
gd (mN M_569 ≤ LC ∧ mZ M_569 ≤ LZ) (
some (Sum.inl M_569)))))))))))) (fun (q_549 : Nat) (M_550 : Mem) => some (Sum.inr (q_549, M_550))))))))
else (
gd (mN M_252 ≤ LC ∧ mZ M_252 ≤ LZ) (
bd2 (f_X2_wrong LC LZ p0 3 M_252) fun (r_582 : Nat) (M_581 : Mem) =>
gd (mT M_581 r_582 = 16) (
gd (mN M_581 ≤ LC ∧ mZ M_581 ≤ LZ) (
some (Sum.inr (r_582, M_581))))))))))))))))))))))
else (
gd (mN M ≤ LC ∧ mZ M ≤ LZ) (
bd2 (f_X2_wrong LC LZ p0 2 M) fun (r_594 : Nat) (M_593 : Mem) =>
gd (mT M_593 r_594 = 16) (
gd (mN M_593 ≤ LC ∧ mZ M_593 ≤ LZ) (
some (Sum.inr (r_594, M_593))))))))) fun (k_12 : Unit → Option ((Mem) ⊕ (Nat × Mem))) =>
if mI M p0 4 = 0 then (
bd (mR M p0 7) fun (a_598 : Nat) =>
gd (mT M a_598 = 2) (
if mI M a_598 8 ≤ 0 then (
k_12 (()))
else (
gd (mN M ≤ LC ∧ mZ M ≤ LZ) (
bd2 (f_X2_wrong LC LZ p0 1 M) fun (r_605 : Nat) (M_604 : Mem) =>
gd (mT M_604 r_605 = 16) (
gd (mN M_604 ≤ LC ∧ mZ M_604 ≤ LZ) (
some (Sum.inr (r_605, M_604))))))))
else (
k_12 (())))))
def rm_f_X2_line (LC LZ : Nat) (M : Mem) : Room := { frames := 240, cells := LC - mN M, slots := LZ - mZ M, locals := 12000 }
theorem ok_f_X2_line {E : En} (hE : EOk E) (hN : NOk E) {N : Nat} {LC LZ : Nat} {p0 : Nat} {M : Mem} {res : (Mem) ⊕ (Nat × Mem)} (h : f_X2_line N LC LZ p0 M = some res) : RM E faF yX2_line cX2_line 5 none (rm_f_X2_line LC LZ M) [rf E p0] M (rsV res) := by
  unfold f_X2_line at h
  refine RM_introX (own := RX2) rfl (by decide) (Nat.le_of_ble_eq_true rfl) rfl (fun G hG hEn hI hX => ?_)
  obtain ⟨Q, eQ⟩ : ∃ Q, Q = QR E G faF (rsV res) (LC - mN M) (LZ - mZ M) := ⟨_, rfl⟩
  show V E G M 0 0 5 0 [(0, rf E p0)] [] (QR E G faF (rsV res) (LC - mN M) (LZ - mZ M))
  rw [← eQ]
  refine V_aload_n hG 0 rfl dX2_line_0 ?_
  refine V_iconst hG 0 rfl dX2_line_1 ?_
  refine V_bipush hG 6 (by decide) dX2_line_2 ?_
  obtain ⟨g_1, h⟩ := gd_of h
  obtain ⟨g_2, h⟩ := gd_of h
  refine V_narrow hEn (fun n1 n2 n3 => ?_)
  obtain ⟨r_4, hc_3, h⟩ := bd_of h
  refine V_callV hE hG (ci := 1) (As := [.int 0, .int 6]) (rest := []) (ok_f_X2_isWord hE hN hc_3) g_1 (by decide) rfl hw_X2_132 hdv_X2_isWord ⟨Nat.le_of_ble_eq_true rfl, Nat.le_of_ble_eq_true rfl⟩ rfl rfl (Nat.le_of_ble_eq_true rfl) ⟨by show _ + 0 ≤ LC - mN M; omega, by show _ + 0 ≤ LZ - mZ M; omega⟩ dX2_line_4 ?_
  refine V_if_eq hG 27 dX2_line_7 (by decide) (fun c_5 => ?_) (fun c_5 => ?_)
  · have h := if_t c_5 h
    refine V_aload_n hG 0 rfl dX2_line_27 ?_
    refine V_iconst hG 1 rfl dX2_line_28 ?_
    obtain ⟨g_6, h⟩ := gd_of h
    refine V_narrow hEn (fun n1 n2 n3 => ?_)
    obtain ⟨r_9, M_8, hc_7, h⟩ := bd2_of h
    refine V_callV hE hG (ci := 1) (As := [.int 1]) (rest := []) (ok_f_X2_wrong hE hN hc_7) g_1 (by decide) rfl hw_X2_85 hdv_X2_wrong ⟨Nat.le_of_ble_eq_true rfl, Nat.le_of_ble_eq_true rfl⟩ rfl rfl (Nat.le_of_ble_eq_true rfl) ⟨by show _ + (LC - mN M) ≤ LC - mN M; omega, by show _ + (LZ - mZ M) ≤ LZ - mZ M; omega⟩ dX2_line_29 ?_
    obtain ⟨g_10, h⟩ := gd_of h
    obtain ⟨g_11, h⟩ := gd_of h
    refine V_narrow hEn (fun n1 n2 n3 => ?_)
    cases h
    subst eQ
    exact T_athrow hG (ci := 16) g_10 (by decide) rfl rfl rfl ⟨by show _ ≤ LC - mN M; omega, by show _ ≤ LZ - mZ M; omega⟩ dX2_line_32 hX
  · have h := if_f c_5 h
    refine V_aload_n hG 0 rfl dX2_line_10 ?_
    refine gf_X2_47 hN hG g_1 dX2_line_11 ?_
    obtain ⟨k_12, ek_12, h⟩ := bek1_of h
    have J_13 : ∀ (u_14 : Unit), k_12 u_14 = some res → V E G M (mN M - mN M) (mZ M - mZ M) 5 33 [(0, rf E p0)] [] Q := by
      intro u_14 h
      have h := ek_12 _ _ h
      refine V_aload_n hG 0 rfl dX2_line_33 ?_
      obtain ⟨g_15, h⟩ := gd_of h
      refine gf_X2_47 hN hG g_15 dX2_line_34 ?_
      obtain ⟨x1_16, ex1_16, h⟩ := be_of h
      refine V_topi ex1_16 ?_
      refine V_istore_n hG rfl [(1, .int x1_16), (0, rf E p0)] dX2_line_37 (Nat.le_of_ble_eq_true rfl) rfl ?_
      refine V_aload_n hG 1 rfl dX2_line_38 ?_
      refine V_iload_n hG 0 rfl dX2_line_39 ?_
      obtain ⟨g_17, h⟩ := gd_of h
      refine V_narrow hEn (fun n1 n2 n3 => ?_)
      obtain ⟨r_19, hc_18, h⟩ := bd_of h
      refine V_callV hE hG (ci := 1) (As := [.int x1_16]) (rest := []) (ok_f_X2_isFull hE hN hc_18) g_15 (by decide) rfl hw_X2_139 hdv_X2_isFull ⟨Nat.le_of_ble_eq_true rfl, Nat.le_of_ble_eq_true rfl⟩ rfl rfl (Nat.le_of_ble_eq_true rfl) ⟨by show _ + 0 ≤ LC - mN M; omega, by show _ + 0 ≤ LZ - mZ M; omega⟩ dX2_line_40 ?_
      refine V_if_eq hG 52 dX2_line_43 (by decide) (fun c_20 => ?_) (fun c_20 => ?_)
      · have h := if_t c_20 h
        refine V_iload_n hG 0 rfl dX2_line_52 ?_
        refine V_iconst hG 4 rfl dX2_line_53 ?_
        obtain ⟨k_21, ek_21, h⟩ := bek1_of h
        have J_22 : ∀ (u_23 : Unit), k_21 u_23 = some res → V E G M (mN M - mN M) (mZ M - mZ M) 5 62 [(1, .int x1_16), (0, rf E p0)] [] Q := by
          intro u_23 h
          have h := ek_21 _ _ h
          refine V_aload_n hG 1 rfl dX2_line_62 ?_
          obtain ⟨g_24, h⟩ := gd_of h
          refine gf_X2_105 hN hG g_24 dX2_line_63 ?_
          refine V_iload_n hG 0 rfl dX2_line_66 ?_
          refine V_ishr hG dX2_line_67 ?_
          refine V_iconst hG 1 rfl dX2_line_68 ?_
          refine V_iand hG dX2_line_69 ?_
          refine V_iconst hG 1 rfl dX2_line_70 ?_
          refine V_icmp_ne hG 80 dX2_line_71 (by decide) (fun c_25 => ?_) (fun c_25 => ?_)
          · have h := if_f c_25 h
            refine V_aload_n hG 1 rfl dX2_line_80 ?_
            refine V_dup hG rfl dX2_line_81 ?_
            refine gf_X2_105 hN hG g_24 dX2_line_82 ?_
            refine V_iconst hG 1 rfl dX2_line_85 ?_
            refine V_iload_n hG 0 rfl dX2_line_86 ?_
            refine V_ishl hG dX2_line_87 ?_
            refine V_ior hG dX2_line_88 ?_
            obtain ⟨M_26, eM_26, h⟩ := be_of h
            refine pf_X2_105 hN hG g_24 eM_26 dX2_line_89 ?_
            have g_27 : mT M_26 p0 = 1 := by rw [eM_26]; exact g_24
            refine V_aload_n hG 1 rfl dX2_line_92 ?_
            obtain ⟨g_28, h⟩ := gd_of h
            refine V_narrow hEn (fun n1 n2 n3 => ?_)
            obtain ⟨M_30, hc_29, h⟩ := bd_of h
            refine V_callV hE hG (ci := 1) (As := []) (rest := []) (ok_f_X2_next hE hN hc_29) g_27 (by decide) rfl hw_X2_93 hdv_X2_next ⟨Nat.le_of_ble_eq_true rfl, Nat.le_of_ble_eq_true rfl⟩ rfl rfl (Nat.le_of_ble_eq_true rfl) ⟨by show _ + 0 ≤ LC - mN M; omega, by show _ + 0 ≤ LZ - mZ M; omega⟩ dX2_line_93 ?_
            refine V_iload_n hG 0 rfl dX2_line_96 ?_
            obtain ⟨k_32, ek_32, h⟩ := bek1_of h
            have J_33 : ∀ (M_31 : Mem), k_32 M_31 = some res → V E G M_31 (mN M_31 - mN M) (mZ M_31 - mZ M) 5 318 [(1, .int x1_16), (0, rf E p0)] [] Q := by
              intro M_31 h
              have h := ek_32 _ _ h
              refine V_aload_n hG 1 rfl dX2_line_318 ?_
              refine V_bipush hG 59 (by decide) dX2_line_319 ?_
              obtain ⟨g_34, h⟩ := gd_of h
              obtain ⟨g_35, h⟩ := gd_of h
              refine V_narrow hEn (fun n1 n2 n3 => ?_)
              obtain ⟨r_37, hc_36, h⟩ := bd_of h
              refine V_callV hE hG (ci := 1) (As := [.int 59]) (rest := []) (ok_f_X2_isSign hE hN hc_36) g_34 (by decide) rfl hw_X2_181 hdv_X2_isSign ⟨Nat.le_of_ble_eq_true rfl, Nat.le_of_ble_eq_true rfl⟩ rfl rfl (Nat.le_of_ble_eq_true rfl) ⟨by show _ + 0 ≤ LC - mN M; omega, by show _ + 0 ≤ LZ - mZ M; omega⟩ dX2_line_321 ?_
              refine V_if_ne hG 333 dX2_line_324 (by decide) (fun c_38 => ?_) (fun c_38 => ?_)
              · have h := if_f c_38 h
                refine V_aload_n hG 1 rfl dX2_line_333 ?_
                obtain ⟨g_39, h⟩ := gd_of h
                refine V_narrow hEn (fun n1 n2 n3 => ?_)
                obtain ⟨M_41, hc_40, h⟩ := bd_of h
                refine V_callV hE hG (ci := 1) (As := []) (rest := []) (ok_f_X2_next hE hN hc_40) g_34 (by decide) rfl hw_X2_93 hdv_X2_next ⟨Nat.le_of_ble_eq_true rfl, Nat.le_of_ble_eq_true rfl⟩ rfl rfl (Nat.le_of_ble_eq_true rfl) ⟨by show _ + 0 ≤ LC - mN M; omega, by show _ + 0 ≤ LZ - mZ M; omega⟩ dX2_line_334 ?_
                refine V_aload_n hG 1 rfl dX2_line_337 ?_
                obtain ⟨g_42, h⟩ := gd_of h
                obtain ⟨a_43, hr_44, h⟩ := bd_of h
                refine gf_X2_111 hN hG g_42 hr_44 dX2_line_338 ?_
                refine V_dup hG rfl dX2_line_341 ?_
                obtain ⟨g_45, h⟩ := gd_of h
                refine gf_X2_136 hN hG g_45 dX2_line_342 ?_
                refine V_iconst hG 1 rfl dX2_line_345 ?_
                refine V_iadd hG dX2_line_346 ?_
                obtain ⟨M_46, eM_46, h⟩ := be_of h
                refine pf_X2_136 hN hG g_45 eM_46 dX2_line_347 ?_
                have g_47 : mT M_46 p0 = 1 := by rw [eM_46]; exact g_42
                have g_48 : mT M_46 a_43 = 2 := by rw [eM_46]; exact g_45
                obtain ⟨g_49, h⟩ := gd_of h
                refine V_narrow hEn (fun n1 n2 n3 => V_widen (k := LC - mN M) (n := LZ - mZ M) (by omega) (by omega) ?_)
                cases h
                subst eQ
                exact V_vret hG dX2_line_350
              · have h := if_t c_38 h
                refine V_aload_n hG 1 rfl dX2_line_327 ?_
                refine V_iconst hG 1 rfl dX2_line_328 ?_
                obtain ⟨g_50, h⟩ := gd_of h
                refine V_narrow hEn (fun n1 n2 n3 => ?_)
                obtain ⟨r_53, M_52, hc_51, h⟩ := bd2_of h
                refine V_callV hE hG (ci := 1) (As := [.int 1]) (rest := []) (ok_f_X2_wrong hE hN hc_51) g_34 (by decide) rfl hw_X2_85 hdv_X2_wrong ⟨Nat.le_of_ble_eq_true rfl, Nat.le_of_ble_eq_true rfl⟩ rfl rfl (Nat.le_of_ble_eq_true rfl) ⟨by show _ + (LC - mN M_31) ≤ LC - mN M; omega, by show _ + (LZ - mZ M_31) ≤ LZ - mZ M; omega⟩ dX2_line_329 ?_
                obtain ⟨g_54, h⟩ := gd_of h
                obtain ⟨g_55, h⟩ := gd_of h
                refine V_narrow hEn (fun n1 n2 n3 => ?_)
                cases h
                subst eQ
                exact T_athrow hG (ci := 16) g_54 (by decide) rfl rfl rfl ⟨by show _ ≤ LC - mN M; omega, by show _ ≤ LZ - mZ M; omega⟩ dX2_line_332 hX
            by_cases c_56 : x1_16 = 0
            · have h := if_t c_56 h
              refine V_tableIn hG 136 dX2_line_97 (by rw [c_56]; decide) (by rw [c_56]; decide) (by rw [c_56]; rfl) (by decide) ?_
              refine V_aload_n hG 1 rfl dX2_line_136 ?_
              obtain ⟨g_57, h⟩ := gd_of h
              obtain ⟨a_58, hr_59, h⟩ := bd_of h
              refine gf_X2_111 hN hG g_57 hr_59 dX2_line_137 ?_
              refine V_aload_n hG 1 rfl dX2_line_140 ?_
              refine V_iconst hG 2 rfl dX2_line_141 ?_
              refine V_bipush hG 60 (by decide) dX2_line_142 ?_
              obtain ⟨g_60, h⟩ := gd_of h
              refine V_narrow hEn (fun n1 n2 n3 => ?_)
              obtain ⟨rs_64, hc_61, hl_65, hr_66⟩ := bt_of h
              have ok_67 := ok_f_X2_number hE hN hc_61
              rcases rs_64 with ⟨r_63, M_62⟩ | ⟨q_68, M_69⟩
              · have h := hl_65 r_63 M_62 rfl
                refine V_callV hE hG (ci := 1) (As := [.int 2, .int 60]) (rest := [rf E a_58]) ok_67 g_57 (by decide) rfl hw_X2_143 hdv_X2_number ⟨Nat.le_of_ble_eq_true rfl, Nat.le_of_ble_eq_true rfl⟩ rfl rfl (Nat.le_of_ble_eq_true rfl) ⟨by show _ + (LC - mN M_30) ≤ LC - mN M; omega, by show _ + (LZ - mZ M_30) ≤ LZ - mZ M; omega⟩ dX2_line_144 ?_
                obtain ⟨g_70, h⟩ := gd_of h
                obtain ⟨M_71, eM_71, h⟩ := be_of h
                refine pf_X2_146 hN hG g_70 eM_71 dX2_line_147 ?_
                have g_72 : mT M_71 a_58 = 2 := by rw [eM_71]; exact g_70
                refine V_goto hG 318 dX2_line_150 (by decide) ?_
                exact V_narrow hEn (fun _ _ _ => J_33 M_71 h)
              · have h : some (Sum.inr (q_68, M_69)) = some res := hr_66 q_68 M_69 rfl
                cases h
                subst eQ
                exact T_callV hE hG (ci := 1) (As := [.int 2, .int 60]) (rest := [rf E a_58]) ok_67 g_57 (by decide) rfl hw_X2_143 hdv_X2_number ⟨Nat.le_of_ble_eq_true rfl, Nat.le_of_ble_eq_true rfl⟩ rfl rfl (Nat.le_of_ble_eq_true rfl) ⟨by show _ + (LC - mN M_30) ≤ LC - mN M; omega, by show _ + (LZ - mZ M_30) ≤ LZ - mZ M; omega⟩ dX2_line_144 hX
            have h := if_f c_56 h
            by_cases c_73 : x1_16 = 1
            · have h := if_t c_73 h
              refine V_tableIn hG 153 dX2_line_97 (by rw [c_73]; decide) (by rw [c_73]; decide) (by rw [c_73]; rfl) (by decide) ?_
              refine V_aload_n hG 1 rfl dX2_line_153 ?_
              obtain ⟨g_74, h⟩ := gd_of h
              obtain ⟨g_75, h⟩ := gd_of h
              refine V_narrow hEn (fun n1 n2 n3 => ?_)
              obtain ⟨rs_78, hc_76, hl_79, hr_80⟩ := btv_of h
              have ok_81 := ok_f_X2_trough hE hN hc_76
              rcases rs_78 with M_77 | ⟨q_82, M_83⟩
              · have h := hl_79 M_77 rfl
                refine V_callV hE hG (ci := 1) (As := []) (rest := []) ok_81 g_74 (by decide) rfl hw_X2_148 hdv_X2_trough ⟨Nat.le_of_ble_eq_true rfl, Nat.le_of_ble_eq_true rfl⟩ rfl rfl (Nat.le_of_ble_eq_true rfl) ⟨by show _ + (LC - mN M_30) ≤ LC - mN M; omega, by show _ + (LZ - mZ M_30) ≤ LZ - mZ M; omega⟩ dX2_line_154 ?_
                refine V_goto hG 318 dX2_line_157 (by decide) ?_
                exact V_narrow hEn (fun _ _ _ => J_33 M_77 h)
              · have h : some (Sum.inr (q_82, M_83)) = some res := hr_80 q_82 M_83 rfl
                cases h
                subst eQ
                exact T_callV hE hG (ci := 1) (As := []) (rest := []) ok_81 g_74 (by decide) rfl hw_X2_148 hdv_X2_trough ⟨Nat.le_of_ble_eq_true rfl, Nat.le_of_ble_eq_true rfl⟩ rfl rfl (Nat.le_of_ble_eq_true rfl) ⟨by show _ + (LC - mN M_30) ≤ LC - mN M; omega, by show _ + (LZ - mZ M_30) ≤ LZ - mZ M; omega⟩ dX2_line_154 hX
            have h := if_f c_73 h
            by_cases c_84 : x1_16 = 2
            · have h := if_t c_84 h
              refine V_tableIn hG 160 dX2_line_97 (by rw [c_84]; decide) (by rw [c_84]; decide) (by rw [c_84]; rfl) (by decide) ?_
              refine V_aload_n hG 1 rfl dX2_line_160 ?_
              obtain ⟨g_85, h⟩ := gd_of h
              obtain ⟨g_86, h⟩ := gd_of h
              refine V_narrow hEn (fun n1 n2 n3 => ?_)
              obtain ⟨rs_89, hc_87, hl_90, hr_91⟩ := btv_of h
              have ok_92 := ok_f_X2_horse hE hN hc_87
              rcases rs_89 with M_88 | ⟨q_93, M_94⟩
              · have h := hl_90 M_88 rfl
                refine V_callV hE hG (ci := 1) (As := []) (rest := []) ok_92 g_85 (by decide) rfl hw_X2_151 hdv_X2_horse ⟨Nat.le_of_ble_eq_true rfl, Nat.le_of_ble_eq_true rfl⟩ rfl rfl (Nat.le_of_ble_eq_true rfl) ⟨by show _ + (LC - mN M_30) ≤ LC - mN M; omega, by show _ + (LZ - mZ M_30) ≤ LZ - mZ M; omega⟩ dX2_line_161 ?_
                refine V_goto hG 318 dX2_line_164 (by decide) ?_
                exact V_narrow hEn (fun _ _ _ => J_33 M_88 h)
              · have h : some (Sum.inr (q_93, M_94)) = some res := hr_91 q_93 M_94 rfl
                cases h
                subst eQ
                exact T_callV hE hG (ci := 1) (As := []) (rest := []) ok_92 g_85 (by decide) rfl hw_X2_151 hdv_X2_horse ⟨Nat.le_of_ble_eq_true rfl, Nat.le_of_ble_eq_true rfl⟩ rfl rfl (Nat.le_of_ble_eq_true rfl) ⟨by show _ + (LC - mN M_30) ≤ LC - mN M; omega, by show _ + (LZ - mZ M_30) ≤ LZ - mZ M; omega⟩ dX2_line_161 hX
            have h := if_f c_84 h
            by_cases c_95 : x1_16 = 3
            · have h := if_t c_95 h
              refine V_tableIn hG 167 dX2_line_97 (by rw [c_95]; decide) (by rw [c_95]; decide) (by rw [c_95]; rfl) (by decide) ?_
              refine V_aload_n hG 1 rfl dX2_line_167 ?_
              refine V_aload_n hG 1 rfl dX2_line_168 ?_
              obtain ⟨g_96, h⟩ := gd_of h
              obtain ⟨a_97, hr_98, h⟩ := bd_of h
              refine gf_X2_111 hN hG g_96 hr_98 dX2_line_169 ?_
              obtain ⟨g_99, h⟩ := gd_of h
              obtain ⟨a_100, hr_101, h⟩ := bd_of h
              refine gf_X2_126 hN hG g_99 hr_101 dX2_line_172 ?_
              obtain ⟨g_102, h⟩ := gd_of h
              refine V_narrow hEn (fun n1 n2 n3 => ?_)
              obtain ⟨rs_106, hc_103, hl_107, hr_108⟩ := bt_of h
              have ok_109 := ok_f_X2_ahead hE hN hc_103
              rcases rs_106 with ⟨r_105, M_104⟩ | ⟨q_110, M_111⟩
              · have h := hl_107 r_105 M_104 rfl
                refine V_callV hE hG (ci := 1) (As := [rf E a_100]) (rest := []) ok_109 g_96 (by decide) rfl hw_X2_154 hdv_X2_ahead ⟨Nat.le_of_ble_eq_true rfl, Nat.le_of_ble_eq_true rfl⟩ rfl rfl (Nat.le_of_ble_eq_true rfl) ⟨by show _ + (LC - mN M_30) ≤ LC - mN M; omega, by show _ + (LZ - mZ M_30) ≤ LZ - mZ M; omega⟩ dX2_line_175 ?_
                refine V_istore_n hG rfl [(2, .int r_105), (1, .int x1_16), (0, rf E p0)] dX2_line_178 (Nat.le_of_ble_eq_true rfl) rfl ?_
                refine V_aload_n hG 2 rfl dX2_line_179 ?_
                refine V_aload_n hG 2 rfl dX2_line_180 ?_
                obtain ⟨g_112, h⟩ := gd_of h
                obtain ⟨a_113, hr_114, h⟩ := bd_of h
                refine gf_X2_111 hN hG g_112 hr_114 dX2_line_181 ?_
                obtain ⟨g_115, h⟩ := gd_of h
                obtain ⟨a_116, hr_117, h⟩ := bd_of h
                refine gf_X2_118 hN hG g_115 hr_117 dX2_line_184 ?_
                obtain ⟨g_118, h⟩ := gd_of h
                refine V_narrow hEn (fun n1 n2 n3 => ?_)
                obtain ⟨rs_122, hc_119, hl_123, hr_124⟩ := bt_of h
                have ok_125 := ok_f_X2_ahead hE hN hc_119
                rcases rs_122 with ⟨r_121, M_120⟩ | ⟨q_126, M_127⟩
                · have h := hl_123 r_121 M_120 rfl
                  refine V_callV hE hG (ci := 1) (As := [rf E a_116]) (rest := []) ok_125 g_112 (by decide) rfl hw_X2_154 hdv_X2_ahead ⟨Nat.le_of_ble_eq_true rfl, Nat.le_of_ble_eq_true rfl⟩ rfl rfl (Nat.le_of_ble_eq_true rfl) ⟨by show _ + (LC - mN M_104) ≤ LC - mN M; omega, by show _ + (LZ - mZ M_104) ≤ LZ - mZ M; omega⟩ dX2_line_187 ?_
                  refine V_istore_n hG rfl [(3, .int r_121), (2, .int r_105), (1, .int x1_16), (0, rf E p0)] dX2_line_190 (Nat.le_of_ble_eq_true rfl) rfl ?_
                  refine V_aload_n hG 3 rfl dX2_line_191 ?_
                  obtain ⟨g_128, h⟩ := gd_of h
                  obtain ⟨a_129, hr_130, h⟩ := bd_of h
                  refine gf_X2_111 hN hG g_128 hr_130 dX2_line_192 ?_
                  obtain ⟨g_131, h⟩ := gd_of h
                  obtain ⟨a_132, hr_133, h⟩ := bd_of h
                  refine gf_X2_129 hN hG g_131 hr_133 dX2_line_195 ?_
                  obtain ⟨g_134, h⟩ := gd_of h
                  obtain ⟨M_135, eM_135, h⟩ := be_of h
                  refine nw_X2_158 hG hEn rfl rfl eM_135 g_134 dX2_line_198 ?_
                  refine V_dup hG rfl dX2_line_201 ?_
                  refine V_iload_n hG 1 rfl dX2_line_202 ?_
                  refine V_iload_n hG 0 rfl dX2_line_203 ?_
                  refine V_aload_n hG 3 rfl dX2_line_204 ?_
                  refine V_iconst hG 0 rfl dX2_line_205 ?_
                  refine V_bipush hG 99 (by decide) dX2_line_206 ?_
                  obtain ⟨g_136, h⟩ := gd_of h
                  obtain ⟨g_137, h⟩ := gd_of h
                  refine V_narrow hEn (fun n1 n2 n3 => ?_)
                  obtain ⟨rs_141, hc_138, hl_142, hr_143⟩ := bt_of h
                  have ok_144 := ok_f_X2_number hE hN hc_138
                  rcases rs_141 with ⟨r_140, M_139⟩ | ⟨q_145, M_146⟩
                  · have h := hl_142 r_140 M_139 rfl
                    refine V_callV hE hG (ci := 1) (As := [.int 0, .int 99]) (rest := [.int r_121, .int r_105, rf E (mN M_120), rf E (mN M_120), rf E a_132]) ok_144 g_136 (by decide) rfl hw_X2_143 hdv_X2_number ⟨Nat.le_of_ble_eq_true rfl, Nat.le_of_ble_eq_true rfl⟩ rfl rfl (Nat.le_of_ble_eq_true rfl) ⟨by show _ + (LC - mN M_135) ≤ LC - mN M; omega, by show _ + (LZ - mZ M_135) ≤ LZ - mZ M; omega⟩ dX2_line_208 ?_
                    obtain ⟨g_147, h⟩ := gd_of h
                    refine V_narrow hEn (fun n1 n2 n3 => ?_)
                    obtain ⟨M_149, hc_148, h⟩ := bd_of h
                    refine V_callI hE hG (rt := none) (As := [.int r_105, .int r_121, .int r_140]) (rest := [rf E (mN M_120), rf E a_132]) (ok_f_X13_init hE hN hc_148) (lw_meth q897) q150 q895 q896 rfl hdc_X13_init ⟨Nat.le_of_ble_eq_true rfl, Nat.le_of_ble_eq_true rfl⟩ rfl rfl (Nat.le_of_ble_eq_true rfl) ⟨by show _ + 0 ≤ LC - mN M; omega, by show _ + 0 ≤ LZ - mZ M; omega⟩ dX2_line_211 ?_
                    obtain ⟨g_150, h⟩ := gd_of h
                    obtain ⟨g_151, h⟩ := gd_of h
                    refine V_narrow hEn (fun n1 n2 n3 => ?_)
                    obtain ⟨r_154, M_153, hc_152, h⟩ := bd2_of h
                    refine V_callV hE hG (ci := 3) (As := [rf E (mN M_120)]) (rest := []) (ok_f_J2_add hE hN hc_152) g_150 (by decide) rfl hw_X2_163 hdv_J2_add ⟨Nat.le_of_ble_eq_true rfl, Nat.le_of_ble_eq_true rfl⟩ rfl rfl (Nat.le_of_ble_eq_true rfl) ⟨by show _ + 0 ≤ LC - mN M; omega, by show _ + 0 ≤ LZ - mZ M; omega⟩ dX2_line_214 ?_
                    refine V_pop hG rfl dX2_line_217 ?_
                    refine V_goto hG 318 dX2_line_218 (by decide) ?_
                    exact V_narrow hEn (fun _ _ _ => V_lv [2, 3] rfl (J_33 M_153 h))
                  · have h : some (Sum.inr (q_145, M_146)) = some res := hr_143 q_145 M_146 rfl
                    cases h
                    subst eQ
                    exact T_callV hE hG (ci := 1) (As := [.int 0, .int 99]) (rest := [.int r_121, .int r_105, rf E (mN M_120), rf E (mN M_120), rf E a_132]) ok_144 g_136 (by decide) rfl hw_X2_143 hdv_X2_number ⟨Nat.le_of_ble_eq_true rfl, Nat.le_of_ble_eq_true rfl⟩ rfl rfl (Nat.le_of_ble_eq_true rfl) ⟨by show _ + (LC - mN M_135) ≤ LC - mN M; omega, by show _ + (LZ - mZ M_135) ≤ LZ - mZ M; omega⟩ dX2_line_208 hX
                · have h : some (Sum.inr (q_126, M_127)) = some res := hr_124 q_126 M_127 rfl
                  cases h
                  subst eQ
                  exact T_callV hE hG (ci := 1) (As := [rf E a_116]) (rest := []) ok_125 g_112 (by decide) rfl hw_X2_154 hdv_X2_ahead ⟨Nat.le_of_ble_eq_true rfl, Nat.le_of_ble_eq_true rfl⟩ rfl rfl (Nat.le_of_ble_eq_true rfl) ⟨by show _ + (LC - mN M_104) ≤ LC - mN M; omega, by show _ + (LZ - mZ M_104) ≤ LZ - mZ M; omega⟩ dX2_line_187 hX
              · have h : some (Sum.inr (q_110, M_111)) = some res := hr_108 q_110 M_111 rfl
                cases h
                subst eQ
                exact T_callV hE hG (ci := 1) (As := [rf E a_100]) (rest := []) ok_109 g_96 (by decide) rfl hw_X2_154 hdv_X2_ahead ⟨Nat.le_of_ble_eq_true rfl, Nat.le_of_ble_eq_true rfl⟩ rfl rfl (Nat.le_of_ble_eq_true rfl) ⟨by show _ + (LC - mN M_30) ≤ LC - mN M; omega, by show _ + (LZ - mZ M_30) ≤ LZ - mZ M; omega⟩ dX2_line_175 hX
            have h := if_f c_95 h
            by_cases c_155 : x1_16 = 4
            · have h := if_t c_155 h
              refine V_tableIn hG 221 dX2_line_97 (by rw [c_155]; decide) (by rw [c_155]; decide) (by rw [c_155]; rfl) (by decide) ?_
              refine V_aload_n hG 1 rfl dX2_line_221 ?_
              obtain ⟨g_156, h⟩ := gd_of h
              obtain ⟨a_157, hr_158, h⟩ := bd_of h
              refine gf_X2_111 hN hG g_156 hr_158 dX2_line_222 ?_
              refine V_aload_n hG 1 rfl dX2_line_225 ?_
              refine V_iconst hG 0 rfl dX2_line_226 ?_
              refine V_bipush hG 100 (by decide) dX2_line_227 ?_
              obtain ⟨g_159, h⟩ := gd_of h
              refine V_narrow hEn (fun n1 n2 n3 => ?_)
              obtain ⟨rs_163, hc_160, hl_164, hr_165⟩ := bt_of h
              have ok_166 := ok_f_X2_number hE hN hc_160
              rcases rs_163 with ⟨r_162, M_161⟩ | ⟨q_167, M_168⟩
              · have h := hl_164 r_162 M_161 rfl
                refine V_callV hE hG (ci := 1) (As := [.int 0, .int 100]) (rest := [rf E a_157]) ok_166 g_156 (by decide) rfl hw_X2_143 hdv_X2_number ⟨Nat.le_of_ble_eq_true rfl, Nat.le_of_ble_eq_true rfl⟩ rfl rfl (Nat.le_of_ble_eq_true rfl) ⟨by show _ + (LC - mN M_30) ≤ LC - mN M; omega, by show _ + (LZ - mZ M_30) ≤ LZ - mZ M; omega⟩ dX2_line_229 ?_
                obtain ⟨g_169, h⟩ := gd_of h
                obtain ⟨M_170, eM_170, h⟩ := be_of h
                refine pf_X2_167 hN hG g_169 eM_170 dX2_line_232 ?_
                have g_171 : mT M_170 a_157 = 2 := by rw [eM_170]; exact g_169
                refine V_goto hG 318 dX2_line_235 (by decide) ?_
                exact V_narrow hEn (fun _ _ _ => J_33 M_170 h)
              · have h : some (Sum.inr (q_167, M_168)) = some res := hr_165 q_167 M_168 rfl
                cases h
                subst eQ
                exact T_callV hE hG (ci := 1) (As := [.int 0, .int 100]) (rest := [rf E a_157]) ok_166 g_156 (by decide) rfl hw_X2_143 hdv_X2_number ⟨Nat.le_of_ble_eq_true rfl, Nat.le_of_ble_eq_true rfl⟩ rfl rfl (Nat.le_of_ble_eq_true rfl) ⟨by show _ + (LC - mN M_30) ≤ LC - mN M; omega, by show _ + (LZ - mZ M_30) ≤ LZ - mZ M; omega⟩ dX2_line_229 hX
            have h := if_f c_155 h
            by_cases c_172 : x1_16 = 5
            · have h := if_t c_172 h
              refine V_tableIn hG 238 dX2_line_97 (by rw [c_172]; decide) (by rw [c_172]; decide) (by rw [c_172]; rfl) (by decide) ?_
              refine V_aload_n hG 1 rfl dX2_line_238 ?_
              obtain ⟨g_173, h⟩ := gd_of h
              obtain ⟨a_174, hr_175, h⟩ := bd_of h
              refine gf_X2_111 hN hG g_173 hr_175 dX2_line_239 ?_
              refine V_aload_n hG 1 rfl dX2_line_242 ?_
              refine V_iconst hG 0 rfl dX2_line_243 ?_
              refine V_ldc hG q582 dX2_line_244 ?_
              obtain ⟨g_176, h⟩ := gd_of h
              refine V_narrow hEn (fun n1 n2 n3 => ?_)
              obtain ⟨rs_180, hc_177, hl_181, hr_182⟩ := bt_of h
              have ok_183 := ok_f_X2_number hE hN hc_177
              rcases rs_180 with ⟨r_179, M_178⟩ | ⟨q_184, M_185⟩
              · have h := hl_181 r_179 M_178 rfl
                refine V_callV hE hG (ci := 1) (As := [.int 0, .int 99999]) (rest := [rf E a_174]) ok_183 g_173 (by decide) rfl hw_X2_143 hdv_X2_number ⟨Nat.le_of_ble_eq_true rfl, Nat.le_of_ble_eq_true rfl⟩ rfl rfl (Nat.le_of_ble_eq_true rfl) ⟨by show _ + (LC - mN M_30) ≤ LC - mN M; omega, by show _ + (LZ - mZ M_30) ≤ LZ - mZ M; omega⟩ dX2_line_246 ?_
                obtain ⟨g_186, h⟩ := gd_of h
                obtain ⟨M_187, eM_187, h⟩ := be_of h
                refine pf_X2_170 hN hG g_186 eM_187 dX2_line_249 ?_
                have g_188 : mT M_187 a_174 = 2 := by rw [eM_187]; exact g_186
                refine V_goto hG 318 dX2_line_252 (by decide) ?_
                exact V_narrow hEn (fun _ _ _ => J_33 M_187 h)
              · have h : some (Sum.inr (q_184, M_185)) = some res := hr_182 q_184 M_185 rfl
                cases h
                subst eQ
                exact T_callV hE hG (ci := 1) (As := [.int 0, .int 99999]) (rest := [rf E a_174]) ok_183 g_173 (by decide) rfl hw_X2_143 hdv_X2_number ⟨Nat.le_of_ble_eq_true rfl, Nat.le_of_ble_eq_true rfl⟩ rfl rfl (Nat.le_of_ble_eq_true rfl) ⟨by show _ + (LC - mN M_30) ≤ LC - mN M; omega, by show _ + (LZ - mZ M_30) ≤ LZ - mZ M; omega⟩ dX2_line_246 hX
            have h := if_f c_172 h
            refine V_tableOut hG 255 dX2_line_97 (by have := lv_neT c_56 (show Int32.toInt 0 = 0 from rfl); have := lv_neT c_73 (show Int32.toInt 1 = 1 from rfl); have := lv_neT c_84 (show Int32.toInt 2 = 2 from rfl); have := lv_neT c_95 (show Int32.toInt 3 = 3 from rfl); have := lv_neT c_155 (show Int32.toInt 4 = 4 from rfl); have := lv_neT c_172 (show Int32.toInt 5 = 5 from rfl); omega) (by decide) ?_
            refine V_aload_n hG 1 rfl dX2_line_255 ?_
            refine V_bipush hG 7 (by decide) dX2_line_256 ?_
            refine V_bipush hG 9 (by decide) dX2_line_258 ?_
            obtain ⟨g_189, h⟩ := gd_of h
            obtain ⟨g_190, h⟩ := gd_of h
            refine V_narrow hEn (fun n1 n2 n3 => ?_)
            obtain ⟨r_192, hc_191, h⟩ := bd_of h
            refine V_callV hE hG (ci := 1) (As := [.int 7, .int 9]) (rest := []) (ok_f_X2_isWord hE hN hc_191) g_189 (by decide) rfl hw_X2_132 hdv_X2_isWord ⟨Nat.le_of_ble_eq_true rfl, Nat.le_of_ble_eq_true rfl⟩ rfl rfl (Nat.le_of_ble_eq_true rfl) ⟨by show _ + 0 ≤ LC - mN M; omega, by show _ + 0 ≤ LZ - mZ M; omega⟩ dX2_line_260 ?_
            refine V_if_ne hG 272 dX2_line_263 (by decide) (fun c_193 => ?_) (fun c_193 => ?_)
            · have h := if_f c_193 h
              refine V_aload_n hG 1 rfl dX2_line_272 ?_
              refine gf_X2_47 hN hG g_189 dX2_line_273 ?_
              refine V_bipush hG 7 (by decide) dX2_line_276 ?_
              refine V_isub hG dX2_line_278 ?_
              obtain ⟨x4_194, ex4_194, h⟩ := be_of h
              refine V_topi ex4_194 ?_
              refine V_istore hG [(4, .int x4_194), (1, .int x1_16), (0, rf E p0)] dX2_line_279 (Nat.le_of_ble_eq_true rfl) rfl ?_
              refine V_aload_n hG 2 rfl dX2_line_281 ?_
              obtain ⟨a_195, hr_196, h⟩ := bd_of h
              refine gf_X2_111 hN hG g_189 hr_196 dX2_line_282 ?_
              obtain ⟨g_197, h⟩ := gd_of h
              obtain ⟨a_198, hr_199, h⟩ := bd_of h
              refine gf_X2_173 hN hG g_197 hr_199 dX2_line_285 ?_
              refine V_iload hG 0 rfl dX2_line_288 ?_
              obtain ⟨g_200, h⟩ := gd_of h
              obtain ⟨g_201, h⟩ := gd_of h
              refine W_aaloadQ5 hG g_200 g_201 dX2_line_290 ?_
              refine W_ifnull hG 300 dX2_line_291 (by decide) (fun c_202 => ?_) (fun c_202 => ?_)
              · have h := if_t c_202 h
                refine V_aload_n hG 2 rfl dX2_line_300 ?_
                obtain ⟨g_203, h⟩ := gd_of h
                refine V_narrow hEn (fun n1 n2 n3 => ?_)
                obtain ⟨M_205, hc_204, h⟩ := bd_of h
                refine V_callV hE hG (ci := 1) (As := []) (rest := []) (ok_f_X2_next hE hN hc_204) g_189 (by decide) rfl hw_X2_93 hdv_X2_next ⟨Nat.le_of_ble_eq_true rfl, Nat.le_of_ble_eq_true rfl⟩ rfl rfl (Nat.le_of_ble_eq_true rfl) ⟨by show _ + 0 ≤ LC - mN M; omega, by show _ + 0 ≤ LZ - mZ M; omega⟩ dX2_line_301 ?_
                refine V_aload_n hG 2 rfl dX2_line_304 ?_
                obtain ⟨g_206, h⟩ := gd_of h
                obtain ⟨a_207, hr_208, h⟩ := bd_of h
                refine gf_X2_111 hN hG g_206 hr_208 dX2_line_305 ?_
                obtain ⟨g_209, h⟩ := gd_of h
                obtain ⟨a_210, hr_211, h⟩ := bd_of h
                refine gf_X2_173 hN hG g_209 hr_211 dX2_line_308 ?_
                refine V_iload hG 0 rfl dX2_line_311 ?_
                refine V_aload_n hG 2 rfl dX2_line_313 ?_
                obtain ⟨g_212, h⟩ := gd_of h
                refine V_narrow hEn (fun n1 n2 n3 => ?_)
                obtain ⟨rs_216, hc_213, hl_217, hr_218⟩ := bt_of h
                have ok_219 := ok_f_X2_orT hE hN hc_213
                rcases rs_216 with ⟨r_215, M_214⟩ | ⟨q_220, M_221⟩
                · have h := hl_217 r_215 M_214 rfl
                  refine V_callV hE hG (ci := 1) (As := []) (rest := [.int x4_194, rf E a_210]) ok_219 g_206 (by decide) rfl hw_X2_177 hdv_X2_or ⟨Nat.le_of_ble_eq_true rfl, Nat.le_of_ble_eq_true rfl⟩ rfl rfl (Nat.le_of_ble_eq_true rfl) ⟨by show _ + (LC - mN M_205) ≤ LC - mN M; omega, by show _ + (LZ - mZ M_205) ≤ LZ - mZ M; omega⟩ dX2_line_314 ?_
                  obtain ⟨g_222, h⟩ := gd_of h
                  obtain ⟨g_223, h⟩ := gd_of h
                  obtain ⟨g_224, h⟩ := gd_of h
                  obtain ⟨M_225, eM_225, h⟩ := be_of h
                  refine as_5 hN hG g_222 g_223 g_224 eM_225 dX2_line_317 ?_
                  have g_226 : mT M_225 a_210 = 105 := by rw [eM_225]; exact g_222
                  have g_227 : mT M_225 r_215 = 10 ∨ mT M_225 r_215 = 11 ∨ mT M_225 r_215 = 12 ∨ mT M_225 r_215 = 13 := by rw [eM_225]; exact g_224
                  exact V_narrow hEn (fun _ _ _ => V_lv [1, 2] rfl (J_33 M_225 h))
                · have h : some (Sum.inr (q_220, M_221)) = some res := hr_218 q_220 M_221 rfl
                  cases h
                  subst eQ
                  exact T_callV hE hG (ci := 1) (As := []) (rest := [.int x4_194, rf E a_210]) ok_219 g_206 (by decide) rfl hw_X2_177 hdv_X2_or ⟨Nat.le_of_ble_eq_true rfl, Nat.le_of_ble_eq_true rfl⟩ rfl rfl (Nat.le_of_ble_eq_true rfl) ⟨by show _ + (LC - mN M_205) ≤ LC - mN M; omega, by show _ + (LZ - mZ M_205) ≤ LZ - mZ M; omega⟩ dX2_line_314 hX
              · have h := if_f c_202 h
                refine V_aload_n hG 2 rfl dX2_line_294 ?_
                refine V_iconst hG 3 rfl dX2_line_295 ?_
                obtain ⟨g_228, h⟩ := gd_of h
                refine V_narrow hEn (fun n1 n2 n3 => ?_)
                obtain ⟨r_231, M_230, hc_229, h⟩ := bd2_of h
                refine V_callV hE hG (ci := 1) (As := [.int 3]) (rest := []) (ok_f_X2_wrong hE hN hc_229) g_189 (by decide) rfl hw_X2_85 hdv_X2_wrong ⟨Nat.le_of_ble_eq_true rfl, Nat.le_of_ble_eq_true rfl⟩ rfl rfl (Nat.le_of_ble_eq_true rfl) ⟨by show _ + (LC - mN M_30) ≤ LC - mN M; omega, by show _ + (LZ - mZ M_30) ≤ LZ - mZ M; omega⟩ dX2_line_296 ?_
                obtain ⟨g_232, h⟩ := gd_of h
                obtain ⟨g_233, h⟩ := gd_of h
                refine V_narrow hEn (fun n1 n2 n3 => ?_)
                cases h
                subst eQ
                exact T_athrow hG (ci := 16) g_232 (by decide) rfl rfl rfl ⟨by show _ ≤ LC - mN M; omega, by show _ ≤ LZ - mZ M; omega⟩ dX2_line_299 hX
            · have h := if_t c_193 h
              refine V_aload_n hG 1 rfl dX2_line_266 ?_
              refine V_iconst hG 1 rfl dX2_line_267 ?_
              obtain ⟨g_234, h⟩ := gd_of h
              refine V_narrow hEn (fun n1 n2 n3 => ?_)
              obtain ⟨r_237, M_236, hc_235, h⟩ := bd2_of h
              refine V_callV hE hG (ci := 1) (As := [.int 1]) (rest := []) (ok_f_X2_wrong hE hN hc_235) g_189 (by decide) rfl hw_X2_85 hdv_X2_wrong ⟨Nat.le_of_ble_eq_true rfl, Nat.le_of_ble_eq_true rfl⟩ rfl rfl (Nat.le_of_ble_eq_true rfl) ⟨by show _ + (LC - mN M_30) ≤ LC - mN M; omega, by show _ + (LZ - mZ M_30) ≤ LZ - mZ M; omega⟩ dX2_line_268 ?_
              obtain ⟨g_238, h⟩ := gd_of h
              obtain ⟨g_239, h⟩ := gd_of h
              refine V_narrow hEn (fun n1 n2 n3 => ?_)
              cases h
              subst eQ
              exact T_athrow hG (ci := 16) g_238 (by decide) rfl rfl rfl ⟨by show _ ≤ LC - mN M; omega, by show _ ≤ LZ - mZ M; omega⟩ dX2_line_271 hX
          · have h := if_t c_25 h
            refine V_aload_n hG 1 rfl dX2_line_74 ?_
            refine V_iconst hG 3 rfl dX2_line_75 ?_
            obtain ⟨g_240, h⟩ := gd_of h
            refine V_narrow hEn (fun n1 n2 n3 => ?_)
            obtain ⟨r_243, M_242, hc_241, h⟩ := bd2_of h
            refine V_callV hE hG (ci := 1) (As := [.int 3]) (rest := []) (ok_f_X2_wrong hE hN hc_241) g_24 (by decide) rfl hw_X2_85 hdv_X2_wrong ⟨Nat.le_of_ble_eq_true rfl, Nat.le_of_ble_eq_true rfl⟩ rfl rfl (Nat.le_of_ble_eq_true rfl) ⟨by show _ + (LC - mN M) ≤ LC - mN M; omega, by show _ + (LZ - mZ M) ≤ LZ - mZ M; omega⟩ dX2_line_76 ?_
            obtain ⟨g_244, h⟩ := gd_of h
            obtain ⟨g_245, h⟩ := gd_of h
            refine V_narrow hEn (fun n1 n2 n3 => ?_)
            cases h
            subst eQ
            exact T_athrow hG (ci := 16) g_244 (by decide) rfl rfl rfl ⟨by show _ ≤ LC - mN M; omega, by show _ ≤ LZ - mZ M; omega⟩ dX2_line_79 hX
        refine V_icmp_eq hG 62 dX2_line_54 (by decide) (fun c_246 => ?_) (fun c_246 => ?_)
        · have h := if_t c_246 h
          exact V_narrow hEn (fun _ _ _ => J_22 (()) h)
        · have h := if_f c_246 h
          refine V_iload_n hG 0 rfl dX2_line_57 ?_
          refine V_iconst hG 5 rfl dX2_line_58 ?_
          refine V_icmp_ne hG 80 dX2_line_59 (by decide) (fun c_247 => ?_) (fun c_247 => ?_)
          · have h := if_f c_247 h
            refine V_aload_n hG 1 rfl dX2_line_80 ?_
            refine V_dup hG rfl dX2_line_81 ?_
            refine gf_X2_105 hN hG g_15 dX2_line_82 ?_
            refine V_iconst hG 1 rfl dX2_line_85 ?_
            refine V_iload_n hG 0 rfl dX2_line_86 ?_
            refine V_ishl hG dX2_line_87 ?_
            refine V_ior hG dX2_line_88 ?_
            obtain ⟨M_248, eM_248, h⟩ := be_of h
            refine pf_X2_105 hN hG g_15 eM_248 dX2_line_89 ?_
            have g_249 : mT M_248 p0 = 1 := by rw [eM_248]; exact g_15
            refine V_aload_n hG 1 rfl dX2_line_92 ?_
            obtain ⟨g_250, h⟩ := gd_of h
            refine V_narrow hEn (fun n1 n2 n3 => ?_)
            obtain ⟨M_252, hc_251, h⟩ := bd_of h
            refine V_callV hE hG (ci := 1) (As := []) (rest := []) (ok_f_X2_next hE hN hc_251) g_249 (by decide) rfl hw_X2_93 hdv_X2_next ⟨Nat.le_of_ble_eq_true rfl, Nat.le_of_ble_eq_true rfl⟩ rfl rfl (Nat.le_of_ble_eq_true rfl) ⟨by show _ + 0 ≤ LC - mN M; omega, by show _ + 0 ≤ LZ - mZ M; omega⟩ dX2_line_93 ?_
            refine V_iload_n hG 0 rfl dX2_line_96 ?_
            by_cases c_253 : x1_16 = 0
            · have h := if_t c_253 h
              refine V_tableIn hG 136 dX2_line_97 (by rw [c_253]; decide) (by rw [c_253]; decide) (by rw [c_253]; rfl) (by decide) ?_
              refine V_aload_n hG 1 rfl dX2_line_136 ?_
              obtain ⟨g_254, h⟩ := gd_of h
              obtain ⟨a_255, hr_256, h⟩ := bd_of h
              refine gf_X2_111 hN hG g_254 hr_256 dX2_line_137 ?_
              refine V_aload_n hG 1 rfl dX2_line_140 ?_
              refine V_iconst hG 2 rfl dX2_line_141 ?_
              refine V_bipush hG 60 (by decide) dX2_line_142 ?_
              obtain ⟨g_257, h⟩ := gd_of h
              refine V_narrow hEn (fun n1 n2 n3 => ?_)
              obtain ⟨rs_261, hc_258, hl_262, hr_263⟩ := bt_of h
              have ok_264 := ok_f_X2_number hE hN hc_258
              rcases rs_261 with ⟨r_260, M_259⟩ | ⟨q_265, M_266⟩
              · have h := hl_262 r_260 M_259 rfl
                refine V_callV hE hG (ci := 1) (As := [.int 2, .int 60]) (rest := [rf E a_255]) ok_264 g_254 (by decide) rfl hw_X2_143 hdv_X2_number ⟨Nat.le_of_ble_eq_true rfl, Nat.le_of_ble_eq_true rfl⟩ rfl rfl (Nat.le_of_ble_eq_true rfl) ⟨by show _ + (LC - mN M_252) ≤ LC - mN M; omega, by show _ + (LZ - mZ M_252) ≤ LZ - mZ M; omega⟩ dX2_line_144 ?_
                obtain ⟨g_267, h⟩ := gd_of h
                obtain ⟨M_268, eM_268, h⟩ := be_of h
                refine pf_X2_146 hN hG g_267 eM_268 dX2_line_147 ?_
                have g_269 : mT M_268 a_255 = 2 := by rw [eM_268]; exact g_267
                refine V_goto hG 318 dX2_line_150 (by decide) ?_
                refine V_aload_n hG 1 rfl dX2_line_318 ?_
                refine V_bipush hG 59 (by decide) dX2_line_319 ?_
                obtain ⟨g_270, h⟩ := gd_of h
                obtain ⟨g_271, h⟩ := gd_of h
                refine V_narrow hEn (fun n1 n2 n3 => ?_)
                obtain ⟨r_273, hc_272, h⟩ := bd_of h
                refine V_callV hE hG (ci := 1) (As := [.int 59]) (rest := []) (ok_f_X2_isSign hE hN hc_272) g_270 (by decide) rfl hw_X2_181 hdv_X2_isSign ⟨Nat.le_of_ble_eq_true rfl, Nat.le_of_ble_eq_true rfl⟩ rfl rfl (Nat.le_of_ble_eq_true rfl) ⟨by show _ + 0 ≤ LC - mN M; omega, by show _ + 0 ≤ LZ - mZ M; omega⟩ dX2_line_321 ?_
                refine V_if_ne hG 333 dX2_line_324 (by decide) (fun c_274 => ?_) (fun c_274 => ?_)
                · have h := if_f c_274 h
                  refine V_aload_n hG 1 rfl dX2_line_333 ?_
                  obtain ⟨g_275, h⟩ := gd_of h
                  refine V_narrow hEn (fun n1 n2 n3 => ?_)
                  obtain ⟨M_277, hc_276, h⟩ := bd_of h
                  refine V_callV hE hG (ci := 1) (As := []) (rest := []) (ok_f_X2_next hE hN hc_276) g_270 (by decide) rfl hw_X2_93 hdv_X2_next ⟨Nat.le_of_ble_eq_true rfl, Nat.le_of_ble_eq_true rfl⟩ rfl rfl (Nat.le_of_ble_eq_true rfl) ⟨by show _ + 0 ≤ LC - mN M; omega, by show _ + 0 ≤ LZ - mZ M; omega⟩ dX2_line_334 ?_
                  refine V_aload_n hG 1 rfl dX2_line_337 ?_
                  obtain ⟨g_278, h⟩ := gd_of h
                  obtain ⟨a_279, hr_280, h⟩ := bd_of h
                  refine gf_X2_111 hN hG g_278 hr_280 dX2_line_338 ?_
                  refine V_dup hG rfl dX2_line_341 ?_
                  obtain ⟨g_281, h⟩ := gd_of h
                  refine gf_X2_136 hN hG g_281 dX2_line_342 ?_
                  refine V_iconst hG 1 rfl dX2_line_345 ?_
                  refine V_iadd hG dX2_line_346 ?_
                  obtain ⟨M_282, eM_282, h⟩ := be_of h
                  refine pf_X2_136 hN hG g_281 eM_282 dX2_line_347 ?_
                  have g_283 : mT M_282 p0 = 1 := by rw [eM_282]; exact g_278
                  have g_284 : mT M_282 a_279 = 2 := by rw [eM_282]; exact g_281
                  obtain ⟨g_285, h⟩ := gd_of h
                  refine V_narrow hEn (fun n1 n2 n3 => V_widen (k := LC - mN M) (n := LZ - mZ M) (by omega) (by omega) ?_)
                  cases h
                  subst eQ
                  exact V_vret hG dX2_line_350
                · have h := if_t c_274 h
                  refine V_aload_n hG 1 rfl dX2_line_327 ?_
                  refine V_iconst hG 1 rfl dX2_line_328 ?_
                  obtain ⟨g_286, h⟩ := gd_of h
                  refine V_narrow hEn (fun n1 n2 n3 => ?_)
                  obtain ⟨r_289, M_288, hc_287, h⟩ := bd2_of h
                  refine V_callV hE hG (ci := 1) (As := [.int 1]) (rest := []) (ok_f_X2_wrong hE hN hc_287) g_270 (by decide) rfl hw_X2_85 hdv_X2_wrong ⟨Nat.le_of_ble_eq_true rfl, Nat.le_of_ble_eq_true rfl⟩ rfl rfl (Nat.le_of_ble_eq_true rfl) ⟨by show _ + (LC - mN M_268) ≤ LC - mN M; omega, by show _ + (LZ - mZ M_268) ≤ LZ - mZ M; omega⟩ dX2_line_329 ?_
                  obtain ⟨g_290, h⟩ := gd_of h
                  obtain ⟨g_291, h⟩ := gd_of h
                  refine V_narrow hEn (fun n1 n2 n3 => ?_)
                  cases h
                  subst eQ
                  exact T_athrow hG (ci := 16) g_290 (by decide) rfl rfl rfl ⟨by show _ ≤ LC - mN M; omega, by show _ ≤ LZ - mZ M; omega⟩ dX2_line_332 hX
              · have h : some (Sum.inr (q_265, M_266)) = some res := hr_263 q_265 M_266 rfl
                cases h
                subst eQ
                exact T_callV hE hG (ci := 1) (As := [.int 2, .int 60]) (rest := [rf E a_255]) ok_264 g_254 (by decide) rfl hw_X2_143 hdv_X2_number ⟨Nat.le_of_ble_eq_true rfl, Nat.le_of_ble_eq_true rfl⟩ rfl rfl (Nat.le_of_ble_eq_true rfl) ⟨by show _ + (LC - mN M_252) ≤ LC - mN M; omega, by show _ + (LZ - mZ M_252) ≤ LZ - mZ M; omega⟩ dX2_line_144 hX
            have h := if_f c_253 h
            by_cases c_292 : x1_16 = 1
            · have h := if_t c_292 h
              refine V_tableIn hG 153 dX2_line_97 (by rw [c_292]; decide) (by rw [c_292]; decide) (by rw [c_292]; rfl) (by decide) ?_
              refine V_aload_n hG 1 rfl dX2_line_153 ?_
              obtain ⟨g_293, h⟩ := gd_of h
              obtain ⟨g_294, h⟩ := gd_of h
              refine V_narrow hEn (fun n1 n2 n3 => ?_)
              obtain ⟨rs_297, hc_295, hl_298, hr_299⟩ := btv_of h
              have ok_300 := ok_f_X2_trough hE hN hc_295
              rcases rs_297 with M_296 | ⟨q_301, M_302⟩
              · have h := hl_298 M_296 rfl
                refine V_callV hE hG (ci := 1) (As := []) (rest := []) ok_300 g_293 (by decide) rfl hw_X2_148 hdv_X2_trough ⟨Nat.le_of_ble_eq_true rfl, Nat.le_of_ble_eq_true rfl⟩ rfl rfl (Nat.le_of_ble_eq_true rfl) ⟨by show _ + (LC - mN M_252) ≤ LC - mN M; omega, by show _ + (LZ - mZ M_252) ≤ LZ - mZ M; omega⟩ dX2_line_154 ?_
                refine V_goto hG 318 dX2_line_157 (by decide) ?_
                refine V_aload_n hG 1 rfl dX2_line_318 ?_
                refine V_bipush hG 59 (by decide) dX2_line_319 ?_
                obtain ⟨g_303, h⟩ := gd_of h
                obtain ⟨g_304, h⟩ := gd_of h
                refine V_narrow hEn (fun n1 n2 n3 => ?_)
                obtain ⟨r_306, hc_305, h⟩ := bd_of h
                refine V_callV hE hG (ci := 1) (As := [.int 59]) (rest := []) (ok_f_X2_isSign hE hN hc_305) g_303 (by decide) rfl hw_X2_181 hdv_X2_isSign ⟨Nat.le_of_ble_eq_true rfl, Nat.le_of_ble_eq_true rfl⟩ rfl rfl (Nat.le_of_ble_eq_true rfl) ⟨by show _ + 0 ≤ LC - mN M; omega, by show _ + 0 ≤ LZ - mZ M; omega⟩ dX2_line_321 ?_
                refine V_if_ne hG 333 dX2_line_324 (by decide) (fun c_307 => ?_) (fun c_307 => ?_)
                · have h := if_f c_307 h
                  refine V_aload_n hG 1 rfl dX2_line_333 ?_
                  obtain ⟨g_308, h⟩ := gd_of h
                  refine V_narrow hEn (fun n1 n2 n3 => ?_)
                  obtain ⟨M_310, hc_309, h⟩ := bd_of h
                  refine V_callV hE hG (ci := 1) (As := []) (rest := []) (ok_f_X2_next hE hN hc_309) g_303 (by decide) rfl hw_X2_93 hdv_X2_next ⟨Nat.le_of_ble_eq_true rfl, Nat.le_of_ble_eq_true rfl⟩ rfl rfl (Nat.le_of_ble_eq_true rfl) ⟨by show _ + 0 ≤ LC - mN M; omega, by show _ + 0 ≤ LZ - mZ M; omega⟩ dX2_line_334 ?_
                  refine V_aload_n hG 1 rfl dX2_line_337 ?_
                  obtain ⟨g_311, h⟩ := gd_of h
                  obtain ⟨a_312, hr_313, h⟩ := bd_of h
                  refine gf_X2_111 hN hG g_311 hr_313 dX2_line_338 ?_
                  refine V_dup hG rfl dX2_line_341 ?_
                  obtain ⟨g_314, h⟩ := gd_of h
                  refine gf_X2_136 hN hG g_314 dX2_line_342 ?_
                  refine V_iconst hG 1 rfl dX2_line_345 ?_
                  refine V_iadd hG dX2_line_346 ?_
                  obtain ⟨M_315, eM_315, h⟩ := be_of h
                  refine pf_X2_136 hN hG g_314 eM_315 dX2_line_347 ?_
                  have g_316 : mT M_315 p0 = 1 := by rw [eM_315]; exact g_311
                  have g_317 : mT M_315 a_312 = 2 := by rw [eM_315]; exact g_314
                  obtain ⟨g_318, h⟩ := gd_of h
                  refine V_narrow hEn (fun n1 n2 n3 => V_widen (k := LC - mN M) (n := LZ - mZ M) (by omega) (by omega) ?_)
                  cases h
                  subst eQ
                  exact V_vret hG dX2_line_350
                · have h := if_t c_307 h
                  refine V_aload_n hG 1 rfl dX2_line_327 ?_
                  refine V_iconst hG 1 rfl dX2_line_328 ?_
                  obtain ⟨g_319, h⟩ := gd_of h
                  refine V_narrow hEn (fun n1 n2 n3 => ?_)
                  obtain ⟨r_322, M_321, hc_320, h⟩ := bd2_of h
                  refine V_callV hE hG (ci := 1) (As := [.int 1]) (rest := []) (ok_f_X2_wrong hE hN hc_320) g_303 (by decide) rfl hw_X2_85 hdv_X2_wrong ⟨Nat.le_of_ble_eq_true rfl, Nat.le_of_ble_eq_true rfl⟩ rfl rfl (Nat.le_of_ble_eq_true rfl) ⟨by show _ + (LC - mN M_296) ≤ LC - mN M; omega, by show _ + (LZ - mZ M_296) ≤ LZ - mZ M; omega⟩ dX2_line_329 ?_
                  obtain ⟨g_323, h⟩ := gd_of h
                  obtain ⟨g_324, h⟩ := gd_of h
                  refine V_narrow hEn (fun n1 n2 n3 => ?_)
                  cases h
                  subst eQ
                  exact T_athrow hG (ci := 16) g_323 (by decide) rfl rfl rfl ⟨by show _ ≤ LC - mN M; omega, by show _ ≤ LZ - mZ M; omega⟩ dX2_line_332 hX
              · have h : some (Sum.inr (q_301, M_302)) = some res := hr_299 q_301 M_302 rfl
                cases h
                subst eQ
                exact T_callV hE hG (ci := 1) (As := []) (rest := []) ok_300 g_293 (by decide) rfl hw_X2_148 hdv_X2_trough ⟨Nat.le_of_ble_eq_true rfl, Nat.le_of_ble_eq_true rfl⟩ rfl rfl (Nat.le_of_ble_eq_true rfl) ⟨by show _ + (LC - mN M_252) ≤ LC - mN M; omega, by show _ + (LZ - mZ M_252) ≤ LZ - mZ M; omega⟩ dX2_line_154 hX
            have h := if_f c_292 h
            by_cases c_325 : x1_16 = 2
            · have h := if_t c_325 h
              refine V_tableIn hG 160 dX2_line_97 (by rw [c_325]; decide) (by rw [c_325]; decide) (by rw [c_325]; rfl) (by decide) ?_
              refine V_aload_n hG 1 rfl dX2_line_160 ?_
              obtain ⟨g_326, h⟩ := gd_of h
              obtain ⟨g_327, h⟩ := gd_of h
              refine V_narrow hEn (fun n1 n2 n3 => ?_)
              obtain ⟨rs_330, hc_328, hl_331, hr_332⟩ := btv_of h
              have ok_333 := ok_f_X2_horse hE hN hc_328
              rcases rs_330 with M_329 | ⟨q_334, M_335⟩
              · have h := hl_331 M_329 rfl
                refine V_callV hE hG (ci := 1) (As := []) (rest := []) ok_333 g_326 (by decide) rfl hw_X2_151 hdv_X2_horse ⟨Nat.le_of_ble_eq_true rfl, Nat.le_of_ble_eq_true rfl⟩ rfl rfl (Nat.le_of_ble_eq_true rfl) ⟨by show _ + (LC - mN M_252) ≤ LC - mN M; omega, by show _ + (LZ - mZ M_252) ≤ LZ - mZ M; omega⟩ dX2_line_161 ?_
                refine V_goto hG 318 dX2_line_164 (by decide) ?_
                refine V_aload_n hG 1 rfl dX2_line_318 ?_
                refine V_bipush hG 59 (by decide) dX2_line_319 ?_
                obtain ⟨g_336, h⟩ := gd_of h
                obtain ⟨g_337, h⟩ := gd_of h
                refine V_narrow hEn (fun n1 n2 n3 => ?_)
                obtain ⟨r_339, hc_338, h⟩ := bd_of h
                refine V_callV hE hG (ci := 1) (As := [.int 59]) (rest := []) (ok_f_X2_isSign hE hN hc_338) g_336 (by decide) rfl hw_X2_181 hdv_X2_isSign ⟨Nat.le_of_ble_eq_true rfl, Nat.le_of_ble_eq_true rfl⟩ rfl rfl (Nat.le_of_ble_eq_true rfl) ⟨by show _ + 0 ≤ LC - mN M; omega, by show _ + 0 ≤ LZ - mZ M; omega⟩ dX2_line_321 ?_
                refine V_if_ne hG 333 dX2_line_324 (by decide) (fun c_340 => ?_) (fun c_340 => ?_)
                · have h := if_f c_340 h
                  refine V_aload_n hG 1 rfl dX2_line_333 ?_
                  obtain ⟨g_341, h⟩ := gd_of h
                  refine V_narrow hEn (fun n1 n2 n3 => ?_)
                  obtain ⟨M_343, hc_342, h⟩ := bd_of h
                  refine V_callV hE hG (ci := 1) (As := []) (rest := []) (ok_f_X2_next hE hN hc_342) g_336 (by decide) rfl hw_X2_93 hdv_X2_next ⟨Nat.le_of_ble_eq_true rfl, Nat.le_of_ble_eq_true rfl⟩ rfl rfl (Nat.le_of_ble_eq_true rfl) ⟨by show _ + 0 ≤ LC - mN M; omega, by show _ + 0 ≤ LZ - mZ M; omega⟩ dX2_line_334 ?_
                  refine V_aload_n hG 1 rfl dX2_line_337 ?_
                  obtain ⟨g_344, h⟩ := gd_of h
                  obtain ⟨a_345, hr_346, h⟩ := bd_of h
                  refine gf_X2_111 hN hG g_344 hr_346 dX2_line_338 ?_
                  refine V_dup hG rfl dX2_line_341 ?_
                  obtain ⟨g_347, h⟩ := gd_of h
                  refine gf_X2_136 hN hG g_347 dX2_line_342 ?_
                  refine V_iconst hG 1 rfl dX2_line_345 ?_
                  refine V_iadd hG dX2_line_346 ?_
                  obtain ⟨M_348, eM_348, h⟩ := be_of h
                  refine pf_X2_136 hN hG g_347 eM_348 dX2_line_347 ?_
                  have g_349 : mT M_348 p0 = 1 := by rw [eM_348]; exact g_344
                  have g_350 : mT M_348 a_345 = 2 := by rw [eM_348]; exact g_347
                  obtain ⟨g_351, h⟩ := gd_of h
                  refine V_narrow hEn (fun n1 n2 n3 => V_widen (k := LC - mN M) (n := LZ - mZ M) (by omega) (by omega) ?_)
                  cases h
                  subst eQ
                  exact V_vret hG dX2_line_350
                · have h := if_t c_340 h
                  refine V_aload_n hG 1 rfl dX2_line_327 ?_
                  refine V_iconst hG 1 rfl dX2_line_328 ?_
                  obtain ⟨g_352, h⟩ := gd_of h
                  refine V_narrow hEn (fun n1 n2 n3 => ?_)
                  obtain ⟨r_355, M_354, hc_353, h⟩ := bd2_of h
                  refine V_callV hE hG (ci := 1) (As := [.int 1]) (rest := []) (ok_f_X2_wrong hE hN hc_353) g_336 (by decide) rfl hw_X2_85 hdv_X2_wrong ⟨Nat.le_of_ble_eq_true rfl, Nat.le_of_ble_eq_true rfl⟩ rfl rfl (Nat.le_of_ble_eq_true rfl) ⟨by show _ + (LC - mN M_329) ≤ LC - mN M; omega, by show _ + (LZ - mZ M_329) ≤ LZ - mZ M; omega⟩ dX2_line_329 ?_
                  obtain ⟨g_356, h⟩ := gd_of h
                  obtain ⟨g_357, h⟩ := gd_of h
                  refine V_narrow hEn (fun n1 n2 n3 => ?_)
                  cases h
                  subst eQ
                  exact T_athrow hG (ci := 16) g_356 (by decide) rfl rfl rfl ⟨by show _ ≤ LC - mN M; omega, by show _ ≤ LZ - mZ M; omega⟩ dX2_line_332 hX
              · have h : some (Sum.inr (q_334, M_335)) = some res := hr_332 q_334 M_335 rfl
                cases h
                subst eQ
                exact T_callV hE hG (ci := 1) (As := []) (rest := []) ok_333 g_326 (by decide) rfl hw_X2_151 hdv_X2_horse ⟨Nat.le_of_ble_eq_true rfl, Nat.le_of_ble_eq_true rfl⟩ rfl rfl (Nat.le_of_ble_eq_true rfl) ⟨by show _ + (LC - mN M_252) ≤ LC - mN M; omega, by show _ + (LZ - mZ M_252) ≤ LZ - mZ M; omega⟩ dX2_line_161 hX
            have h := if_f c_325 h
            by_cases c_358 : x1_16 = 3
            · have h := if_t c_358 h
              refine V_tableIn hG 167 dX2_line_97 (by rw [c_358]; decide) (by rw [c_358]; decide) (by rw [c_358]; rfl) (by decide) ?_
              refine V_aload_n hG 1 rfl dX2_line_167 ?_
              refine V_aload_n hG 1 rfl dX2_line_168 ?_
              obtain ⟨g_359, h⟩ := gd_of h
              obtain ⟨a_360, hr_361, h⟩ := bd_of h
              refine gf_X2_111 hN hG g_359 hr_361 dX2_line_169 ?_
              obtain ⟨g_362, h⟩ := gd_of h
              obtain ⟨a_363, hr_364, h⟩ := bd_of h
              refine gf_X2_126 hN hG g_362 hr_364 dX2_line_172 ?_
              obtain ⟨g_365, h⟩ := gd_of h
              refine V_narrow hEn (fun n1 n2 n3 => ?_)
              obtain ⟨rs_369, hc_366, hl_370, hr_371⟩ := bt_of h
              have ok_372 := ok_f_X2_ahead hE hN hc_366
              rcases rs_369 with ⟨r_368, M_367⟩ | ⟨q_373, M_374⟩
              · have h := hl_370 r_368 M_367 rfl
                refine V_callV hE hG (ci := 1) (As := [rf E a_363]) (rest := []) ok_372 g_359 (by decide) rfl hw_X2_154 hdv_X2_ahead ⟨Nat.le_of_ble_eq_true rfl, Nat.le_of_ble_eq_true rfl⟩ rfl rfl (Nat.le_of_ble_eq_true rfl) ⟨by show _ + (LC - mN M_252) ≤ LC - mN M; omega, by show _ + (LZ - mZ M_252) ≤ LZ - mZ M; omega⟩ dX2_line_175 ?_
                refine V_istore_n hG rfl [(2, .int r_368), (1, .int x1_16), (0, rf E p0)] dX2_line_178 (Nat.le_of_ble_eq_true rfl) rfl ?_
                refine V_aload_n hG 2 rfl dX2_line_179 ?_
                refine V_aload_n hG 2 rfl dX2_line_180 ?_
                obtain ⟨g_375, h⟩ := gd_of h
                obtain ⟨a_376, hr_377, h⟩ := bd_of h
                refine gf_X2_111 hN hG g_375 hr_377 dX2_line_181 ?_
                obtain ⟨g_378, h⟩ := gd_of h
                obtain ⟨a_379, hr_380, h⟩ := bd_of h
                refine gf_X2_118 hN hG g_378 hr_380 dX2_line_184 ?_
                obtain ⟨g_381, h⟩ := gd_of h
                refine V_narrow hEn (fun n1 n2 n3 => ?_)
                obtain ⟨rs_385, hc_382, hl_386, hr_387⟩ := bt_of h
                have ok_388 := ok_f_X2_ahead hE hN hc_382
                rcases rs_385 with ⟨r_384, M_383⟩ | ⟨q_389, M_390⟩
                · have h := hl_386 r_384 M_383 rfl
                  refine V_callV hE hG (ci := 1) (As := [rf E a_379]) (rest := []) ok_388 g_375 (by decide) rfl hw_X2_154 hdv_X2_ahead ⟨Nat.le_of_ble_eq_true rfl, Nat.le_of_ble_eq_true rfl⟩ rfl rfl (Nat.le_of_ble_eq_true rfl) ⟨by show _ + (LC - mN M_367) ≤ LC - mN M; omega, by show _ + (LZ - mZ M_367) ≤ LZ - mZ M; omega⟩ dX2_line_187 ?_
                  refine V_istore_n hG rfl [(3, .int r_384), (2, .int r_368), (1, .int x1_16), (0, rf E p0)] dX2_line_190 (Nat.le_of_ble_eq_true rfl) rfl ?_
                  refine V_aload_n hG 3 rfl dX2_line_191 ?_
                  obtain ⟨g_391, h⟩ := gd_of h
                  obtain ⟨a_392, hr_393, h⟩ := bd_of h
                  refine gf_X2_111 hN hG g_391 hr_393 dX2_line_192 ?_
                  obtain ⟨g_394, h⟩ := gd_of h
                  obtain ⟨a_395, hr_396, h⟩ := bd_of h
                  refine gf_X2_129 hN hG g_394 hr_396 dX2_line_195 ?_
                  obtain ⟨g_397, h⟩ := gd_of h
                  obtain ⟨M_398, eM_398, h⟩ := be_of h
                  refine nw_X2_158 hG hEn rfl rfl eM_398 g_397 dX2_line_198 ?_
                  refine V_dup hG rfl dX2_line_201 ?_
                  refine V_iload_n hG 1 rfl dX2_line_202 ?_
                  refine V_iload_n hG 0 rfl dX2_line_203 ?_
                  refine V_aload_n hG 3 rfl dX2_line_204 ?_
                  refine V_iconst hG 0 rfl dX2_line_205 ?_
                  refine V_bipush hG 99 (by decide) dX2_line_206 ?_
                  obtain ⟨g_399, h⟩ := gd_of h
                  obtain ⟨g_400, h⟩ := gd_of h
                  refine V_narrow hEn (fun n1 n2 n3 => ?_)
                  obtain ⟨rs_404, hc_401, hl_405, hr_406⟩ := bt_of h
                  have ok_407 := ok_f_X2_number hE hN hc_401
                  rcases rs_404 with ⟨r_403, M_402⟩ | ⟨q_408, M_409⟩
                  · have h := hl_405 r_403 M_402 rfl
                    refine V_callV hE hG (ci := 1) (As := [.int 0, .int 99]) (rest := [.int r_384, .int r_368, rf E (mN M_383), rf E (mN M_383), rf E a_395]) ok_407 g_399 (by decide) rfl hw_X2_143 hdv_X2_number ⟨Nat.le_of_ble_eq_true rfl, Nat.le_of_ble_eq_true rfl⟩ rfl rfl (Nat.le_of_ble_eq_true rfl) ⟨by show _ + (LC - mN M_398) ≤ LC - mN M; omega, by show _ + (LZ - mZ M_398) ≤ LZ - mZ M; omega⟩ dX2_line_208 ?_
                    obtain ⟨g_410, h⟩ := gd_of h
                    refine V_narrow hEn (fun n1 n2 n3 => ?_)
                    obtain ⟨M_412, hc_411, h⟩ := bd_of h
                    refine V_callI hE hG (rt := none) (As := [.int r_368, .int r_384, .int r_403]) (rest := [rf E (mN M_383), rf E a_395]) (ok_f_X13_init hE hN hc_411) (lw_meth q897) q150 q895 q896 rfl hdc_X13_init ⟨Nat.le_of_ble_eq_true rfl, Nat.le_of_ble_eq_true rfl⟩ rfl rfl (Nat.le_of_ble_eq_true rfl) ⟨by show _ + 0 ≤ LC - mN M; omega, by show _ + 0 ≤ LZ - mZ M; omega⟩ dX2_line_211 ?_
                    obtain ⟨g_413, h⟩ := gd_of h
                    obtain ⟨g_414, h⟩ := gd_of h
                    refine V_narrow hEn (fun n1 n2 n3 => ?_)
                    obtain ⟨r_417, M_416, hc_415, h⟩ := bd2_of h
                    refine V_callV hE hG (ci := 3) (As := [rf E (mN M_383)]) (rest := []) (ok_f_J2_add hE hN hc_415) g_413 (by decide) rfl hw_X2_163 hdv_J2_add ⟨Nat.le_of_ble_eq_true rfl, Nat.le_of_ble_eq_true rfl⟩ rfl rfl (Nat.le_of_ble_eq_true rfl) ⟨by show _ + 0 ≤ LC - mN M; omega, by show _ + 0 ≤ LZ - mZ M; omega⟩ dX2_line_214 ?_
                    refine V_pop hG rfl dX2_line_217 ?_
                    refine V_goto hG 318 dX2_line_218 (by decide) ?_
                    refine V_aload_n hG 3 rfl dX2_line_318 ?_
                    refine V_bipush hG 59 (by decide) dX2_line_319 ?_
                    obtain ⟨g_418, h⟩ := gd_of h
                    obtain ⟨g_419, h⟩ := gd_of h
                    refine V_narrow hEn (fun n1 n2 n3 => ?_)
                    obtain ⟨r_421, hc_420, h⟩ := bd_of h
                    refine V_callV hE hG (ci := 1) (As := [.int 59]) (rest := []) (ok_f_X2_isSign hE hN hc_420) g_418 (by decide) rfl hw_X2_181 hdv_X2_isSign ⟨Nat.le_of_ble_eq_true rfl, Nat.le_of_ble_eq_true rfl⟩ rfl rfl (Nat.le_of_ble_eq_true rfl) ⟨by show _ + 0 ≤ LC - mN M; omega, by show _ + 0 ≤ LZ - mZ M; omega⟩ dX2_line_321 ?_
                    refine V_if_ne hG 333 dX2_line_324 (by decide) (fun c_422 => ?_) (fun c_422 => ?_)
                    · have h := if_f c_422 h
                      refine V_aload_n hG 3 rfl dX2_line_333 ?_
                      obtain ⟨g_423, h⟩ := gd_of h
                      refine V_narrow hEn (fun n1 n2 n3 => ?_)
                      obtain ⟨M_425, hc_424, h⟩ := bd_of h
                      refine V_callV hE hG (ci := 1) (As := []) (rest := []) (ok_f_X2_next hE hN hc_424) g_418 (by decide) rfl hw_X2_93 hdv_X2_next ⟨Nat.le_of_ble_eq_true rfl, Nat.le_of_ble_eq_true rfl⟩ rfl rfl (Nat.le_of_ble_eq_true rfl) ⟨by show _ + 0 ≤ LC - mN M; omega, by show _ + 0 ≤ LZ - mZ M; omega⟩ dX2_line_334 ?_
                      refine V_aload_n hG 3 rfl dX2_line_337 ?_
                      obtain ⟨g_426, h⟩ := gd_of h
                      obtain ⟨a_427, hr_428, h⟩ := bd_of h
                      refine gf_X2_111 hN hG g_426 hr_428 dX2_line_338 ?_
                      refine V_dup hG rfl dX2_line_341 ?_
                      obtain ⟨g_429, h⟩ := gd_of h
                      refine gf_X2_136 hN hG g_429 dX2_line_342 ?_
                      refine V_iconst hG 1 rfl dX2_line_345 ?_
                      refine V_iadd hG dX2_line_346 ?_
                      obtain ⟨M_430, eM_430, h⟩ := be_of h
                      refine pf_X2_136 hN hG g_429 eM_430 dX2_line_347 ?_
                      have g_431 : mT M_430 p0 = 1 := by rw [eM_430]; exact g_426
                      have g_432 : mT M_430 a_427 = 2 := by rw [eM_430]; exact g_429
                      obtain ⟨g_433, h⟩ := gd_of h
                      refine V_narrow hEn (fun n1 n2 n3 => V_widen (k := LC - mN M) (n := LZ - mZ M) (by omega) (by omega) ?_)
                      cases h
                      subst eQ
                      exact V_vret hG dX2_line_350
                    · have h := if_t c_422 h
                      refine V_aload_n hG 3 rfl dX2_line_327 ?_
                      refine V_iconst hG 1 rfl dX2_line_328 ?_
                      obtain ⟨g_434, h⟩ := gd_of h
                      refine V_narrow hEn (fun n1 n2 n3 => ?_)
                      obtain ⟨r_437, M_436, hc_435, h⟩ := bd2_of h
                      refine V_callV hE hG (ci := 1) (As := [.int 1]) (rest := []) (ok_f_X2_wrong hE hN hc_435) g_418 (by decide) rfl hw_X2_85 hdv_X2_wrong ⟨Nat.le_of_ble_eq_true rfl, Nat.le_of_ble_eq_true rfl⟩ rfl rfl (Nat.le_of_ble_eq_true rfl) ⟨by show _ + (LC - mN M_416) ≤ LC - mN M; omega, by show _ + (LZ - mZ M_416) ≤ LZ - mZ M; omega⟩ dX2_line_329 ?_
                      obtain ⟨g_438, h⟩ := gd_of h
                      obtain ⟨g_439, h⟩ := gd_of h
                      refine V_narrow hEn (fun n1 n2 n3 => ?_)
                      cases h
                      subst eQ
                      exact T_athrow hG (ci := 16) g_438 (by decide) rfl rfl rfl ⟨by show _ ≤ LC - mN M; omega, by show _ ≤ LZ - mZ M; omega⟩ dX2_line_332 hX
                  · have h : some (Sum.inr (q_408, M_409)) = some res := hr_406 q_408 M_409 rfl
                    cases h
                    subst eQ
                    exact T_callV hE hG (ci := 1) (As := [.int 0, .int 99]) (rest := [.int r_384, .int r_368, rf E (mN M_383), rf E (mN M_383), rf E a_395]) ok_407 g_399 (by decide) rfl hw_X2_143 hdv_X2_number ⟨Nat.le_of_ble_eq_true rfl, Nat.le_of_ble_eq_true rfl⟩ rfl rfl (Nat.le_of_ble_eq_true rfl) ⟨by show _ + (LC - mN M_398) ≤ LC - mN M; omega, by show _ + (LZ - mZ M_398) ≤ LZ - mZ M; omega⟩ dX2_line_208 hX
                · have h : some (Sum.inr (q_389, M_390)) = some res := hr_387 q_389 M_390 rfl
                  cases h
                  subst eQ
                  exact T_callV hE hG (ci := 1) (As := [rf E a_379]) (rest := []) ok_388 g_375 (by decide) rfl hw_X2_154 hdv_X2_ahead ⟨Nat.le_of_ble_eq_true rfl, Nat.le_of_ble_eq_true rfl⟩ rfl rfl (Nat.le_of_ble_eq_true rfl) ⟨by show _ + (LC - mN M_367) ≤ LC - mN M; omega, by show _ + (LZ - mZ M_367) ≤ LZ - mZ M; omega⟩ dX2_line_187 hX
              · have h : some (Sum.inr (q_373, M_374)) = some res := hr_371 q_373 M_374 rfl
                cases h
                subst eQ
                exact T_callV hE hG (ci := 1) (As := [rf E a_363]) (rest := []) ok_372 g_359 (by decide) rfl hw_X2_154 hdv_X2_ahead ⟨Nat.le_of_ble_eq_true rfl, Nat.le_of_ble_eq_true rfl⟩ rfl rfl (Nat.le_of_ble_eq_true rfl) ⟨by show _ + (LC - mN M_252) ≤ LC - mN M; omega, by show _ + (LZ - mZ M_252) ≤ LZ - mZ M; omega⟩ dX2_line_175 hX
            have h := if_f c_358 h
            by_cases c_440 : x1_16 = 4
            · have h := if_t c_440 h
              refine V_tableIn hG 221 dX2_line_97 (by rw [c_440]; decide) (by rw [c_440]; decide) (by rw [c_440]; rfl) (by decide) ?_
              refine V_aload_n hG 1 rfl dX2_line_221 ?_
              obtain ⟨g_441, h⟩ := gd_of h
              obtain ⟨a_442, hr_443, h⟩ := bd_of h
              refine gf_X2_111 hN hG g_441 hr_443 dX2_line_222 ?_
              refine V_aload_n hG 1 rfl dX2_line_225 ?_
              refine V_iconst hG 0 rfl dX2_line_226 ?_
              refine V_bipush hG 100 (by decide) dX2_line_227 ?_
              obtain ⟨g_444, h⟩ := gd_of h
              refine V_narrow hEn (fun n1 n2 n3 => ?_)
              obtain ⟨rs_448, hc_445, hl_449, hr_450⟩ := bt_of h
              have ok_451 := ok_f_X2_number hE hN hc_445
              rcases rs_448 with ⟨r_447, M_446⟩ | ⟨q_452, M_453⟩
              · have h := hl_449 r_447 M_446 rfl
                refine V_callV hE hG (ci := 1) (As := [.int 0, .int 100]) (rest := [rf E a_442]) ok_451 g_441 (by decide) rfl hw_X2_143 hdv_X2_number ⟨Nat.le_of_ble_eq_true rfl, Nat.le_of_ble_eq_true rfl⟩ rfl rfl (Nat.le_of_ble_eq_true rfl) ⟨by show _ + (LC - mN M_252) ≤ LC - mN M; omega, by show _ + (LZ - mZ M_252) ≤ LZ - mZ M; omega⟩ dX2_line_229 ?_
                obtain ⟨g_454, h⟩ := gd_of h
                obtain ⟨M_455, eM_455, h⟩ := be_of h
                refine pf_X2_167 hN hG g_454 eM_455 dX2_line_232 ?_
                have g_456 : mT M_455 a_442 = 2 := by rw [eM_455]; exact g_454
                refine V_goto hG 318 dX2_line_235 (by decide) ?_
                refine V_aload_n hG 1 rfl dX2_line_318 ?_
                refine V_bipush hG 59 (by decide) dX2_line_319 ?_
                obtain ⟨g_457, h⟩ := gd_of h
                obtain ⟨g_458, h⟩ := gd_of h
                refine V_narrow hEn (fun n1 n2 n3 => ?_)
                obtain ⟨r_460, hc_459, h⟩ := bd_of h
                refine V_callV hE hG (ci := 1) (As := [.int 59]) (rest := []) (ok_f_X2_isSign hE hN hc_459) g_457 (by decide) rfl hw_X2_181 hdv_X2_isSign ⟨Nat.le_of_ble_eq_true rfl, Nat.le_of_ble_eq_true rfl⟩ rfl rfl (Nat.le_of_ble_eq_true rfl) ⟨by show _ + 0 ≤ LC - mN M; omega, by show _ + 0 ≤ LZ - mZ M; omega⟩ dX2_line_321 ?_
                refine V_if_ne hG 333 dX2_line_324 (by decide) (fun c_461 => ?_) (fun c_461 => ?_)
                · have h := if_f c_461 h
                  refine V_aload_n hG 1 rfl dX2_line_333 ?_
                  obtain ⟨g_462, h⟩ := gd_of h
                  refine V_narrow hEn (fun n1 n2 n3 => ?_)
                  obtain ⟨M_464, hc_463, h⟩ := bd_of h
                  refine V_callV hE hG (ci := 1) (As := []) (rest := []) (ok_f_X2_next hE hN hc_463) g_457 (by decide) rfl hw_X2_93 hdv_X2_next ⟨Nat.le_of_ble_eq_true rfl, Nat.le_of_ble_eq_true rfl⟩ rfl rfl (Nat.le_of_ble_eq_true rfl) ⟨by show _ + 0 ≤ LC - mN M; omega, by show _ + 0 ≤ LZ - mZ M; omega⟩ dX2_line_334 ?_
                  refine V_aload_n hG 1 rfl dX2_line_337 ?_
                  obtain ⟨g_465, h⟩ := gd_of h
                  obtain ⟨a_466, hr_467, h⟩ := bd_of h
                  refine gf_X2_111 hN hG g_465 hr_467 dX2_line_338 ?_
                  refine V_dup hG rfl dX2_line_341 ?_
                  obtain ⟨g_468, h⟩ := gd_of h
                  refine gf_X2_136 hN hG g_468 dX2_line_342 ?_
                  refine V_iconst hG 1 rfl dX2_line_345 ?_
                  refine V_iadd hG dX2_line_346 ?_
                  obtain ⟨M_469, eM_469, h⟩ := be_of h
                  refine pf_X2_136 hN hG g_468 eM_469 dX2_line_347 ?_
                  have g_470 : mT M_469 p0 = 1 := by rw [eM_469]; exact g_465
                  have g_471 : mT M_469 a_466 = 2 := by rw [eM_469]; exact g_468
                  obtain ⟨g_472, h⟩ := gd_of h
                  refine V_narrow hEn (fun n1 n2 n3 => V_widen (k := LC - mN M) (n := LZ - mZ M) (by omega) (by omega) ?_)
                  cases h
                  subst eQ
                  exact V_vret hG dX2_line_350
                · have h := if_t c_461 h
                  refine V_aload_n hG 1 rfl dX2_line_327 ?_
                  refine V_iconst hG 1 rfl dX2_line_328 ?_
                  obtain ⟨g_473, h⟩ := gd_of h
                  refine V_narrow hEn (fun n1 n2 n3 => ?_)
                  obtain ⟨r_476, M_475, hc_474, h⟩ := bd2_of h
                  refine V_callV hE hG (ci := 1) (As := [.int 1]) (rest := []) (ok_f_X2_wrong hE hN hc_474) g_457 (by decide) rfl hw_X2_85 hdv_X2_wrong ⟨Nat.le_of_ble_eq_true rfl, Nat.le_of_ble_eq_true rfl⟩ rfl rfl (Nat.le_of_ble_eq_true rfl) ⟨by show _ + (LC - mN M_455) ≤ LC - mN M; omega, by show _ + (LZ - mZ M_455) ≤ LZ - mZ M; omega⟩ dX2_line_329 ?_
                  obtain ⟨g_477, h⟩ := gd_of h
                  obtain ⟨g_478, h⟩ := gd_of h
                  refine V_narrow hEn (fun n1 n2 n3 => ?_)
                  cases h
                  subst eQ
                  exact T_athrow hG (ci := 16) g_477 (by decide) rfl rfl rfl ⟨by show _ ≤ LC - mN M; omega, by show _ ≤ LZ - mZ M; omega⟩ dX2_line_332 hX
              · have h : some (Sum.inr (q_452, M_453)) = some res := hr_450 q_452 M_453 rfl
                cases h
                subst eQ
                exact T_callV hE hG (ci := 1) (As := [.int 0, .int 100]) (rest := [rf E a_442]) ok_451 g_441 (by decide) rfl hw_X2_143 hdv_X2_number ⟨Nat.le_of_ble_eq_true rfl, Nat.le_of_ble_eq_true rfl⟩ rfl rfl (Nat.le_of_ble_eq_true rfl) ⟨by show _ + (LC - mN M_252) ≤ LC - mN M; omega, by show _ + (LZ - mZ M_252) ≤ LZ - mZ M; omega⟩ dX2_line_229 hX
            have h := if_f c_440 h
            by_cases c_479 : x1_16 = 5
            · have h := if_t c_479 h
              refine V_tableIn hG 238 dX2_line_97 (by rw [c_479]; decide) (by rw [c_479]; decide) (by rw [c_479]; rfl) (by decide) ?_
              refine V_aload_n hG 1 rfl dX2_line_238 ?_
              obtain ⟨g_480, h⟩ := gd_of h
              obtain ⟨a_481, hr_482, h⟩ := bd_of h
              refine gf_X2_111 hN hG g_480 hr_482 dX2_line_239 ?_
              refine V_aload_n hG 1 rfl dX2_line_242 ?_
              refine V_iconst hG 0 rfl dX2_line_243 ?_
              refine V_ldc hG q582 dX2_line_244 ?_
              obtain ⟨g_483, h⟩ := gd_of h
              refine V_narrow hEn (fun n1 n2 n3 => ?_)
              obtain ⟨rs_487, hc_484, hl_488, hr_489⟩ := bt_of h
              have ok_490 := ok_f_X2_number hE hN hc_484
              rcases rs_487 with ⟨r_486, M_485⟩ | ⟨q_491, M_492⟩
              · have h := hl_488 r_486 M_485 rfl
                refine V_callV hE hG (ci := 1) (As := [.int 0, .int 99999]) (rest := [rf E a_481]) ok_490 g_480 (by decide) rfl hw_X2_143 hdv_X2_number ⟨Nat.le_of_ble_eq_true rfl, Nat.le_of_ble_eq_true rfl⟩ rfl rfl (Nat.le_of_ble_eq_true rfl) ⟨by show _ + (LC - mN M_252) ≤ LC - mN M; omega, by show _ + (LZ - mZ M_252) ≤ LZ - mZ M; omega⟩ dX2_line_246 ?_
                obtain ⟨g_493, h⟩ := gd_of h
                obtain ⟨M_494, eM_494, h⟩ := be_of h
                refine pf_X2_170 hN hG g_493 eM_494 dX2_line_249 ?_
                have g_495 : mT M_494 a_481 = 2 := by rw [eM_494]; exact g_493
                refine V_goto hG 318 dX2_line_252 (by decide) ?_
                refine V_aload_n hG 1 rfl dX2_line_318 ?_
                refine V_bipush hG 59 (by decide) dX2_line_319 ?_
                obtain ⟨g_496, h⟩ := gd_of h
                obtain ⟨g_497, h⟩ := gd_of h
                refine V_narrow hEn (fun n1 n2 n3 => ?_)
                obtain ⟨r_499, hc_498, h⟩ := bd_of h
                refine V_callV hE hG (ci := 1) (As := [.int 59]) (rest := []) (ok_f_X2_isSign hE hN hc_498) g_496 (by decide) rfl hw_X2_181 hdv_X2_isSign ⟨Nat.le_of_ble_eq_true rfl, Nat.le_of_ble_eq_true rfl⟩ rfl rfl (Nat.le_of_ble_eq_true rfl) ⟨by show _ + 0 ≤ LC - mN M; omega, by show _ + 0 ≤ LZ - mZ M; omega⟩ dX2_line_321 ?_
                refine V_if_ne hG 333 dX2_line_324 (by decide) (fun c_500 => ?_) (fun c_500 => ?_)
                · have h := if_f c_500 h
                  refine V_aload_n hG 1 rfl dX2_line_333 ?_
                  obtain ⟨g_501, h⟩ := gd_of h
                  refine V_narrow hEn (fun n1 n2 n3 => ?_)
                  obtain ⟨M_503, hc_502, h⟩ := bd_of h
                  refine V_callV hE hG (ci := 1) (As := []) (rest := []) (ok_f_X2_next hE hN hc_502) g_496 (by decide) rfl hw_X2_93 hdv_X2_next ⟨Nat.le_of_ble_eq_true rfl, Nat.le_of_ble_eq_true rfl⟩ rfl rfl (Nat.le_of_ble_eq_true rfl) ⟨by show _ + 0 ≤ LC - mN M; omega, by show _ + 0 ≤ LZ - mZ M; omega⟩ dX2_line_334 ?_
                  refine V_aload_n hG 1 rfl dX2_line_337 ?_
                  obtain ⟨g_504, h⟩ := gd_of h
                  obtain ⟨a_505, hr_506, h⟩ := bd_of h
                  refine gf_X2_111 hN hG g_504 hr_506 dX2_line_338 ?_
                  refine V_dup hG rfl dX2_line_341 ?_
                  obtain ⟨g_507, h⟩ := gd_of h
                  refine gf_X2_136 hN hG g_507 dX2_line_342 ?_
                  refine V_iconst hG 1 rfl dX2_line_345 ?_
                  refine V_iadd hG dX2_line_346 ?_
                  obtain ⟨M_508, eM_508, h⟩ := be_of h
                  refine pf_X2_136 hN hG g_507 eM_508 dX2_line_347 ?_
                  have g_509 : mT M_508 p0 = 1 := by rw [eM_508]; exact g_504
                  have g_510 : mT M_508 a_505 = 2 := by rw [eM_508]; exact g_507
                  obtain ⟨g_511, h⟩ := gd_of h
                  refine V_narrow hEn (fun n1 n2 n3 => V_widen (k := LC - mN M) (n := LZ - mZ M) (by omega) (by omega) ?_)
                  cases h
                  subst eQ
                  exact V_vret hG dX2_line_350
                · have h := if_t c_500 h
                  refine V_aload_n hG 1 rfl dX2_line_327 ?_
                  refine V_iconst hG 1 rfl dX2_line_328 ?_
                  obtain ⟨g_512, h⟩ := gd_of h
                  refine V_narrow hEn (fun n1 n2 n3 => ?_)
                  obtain ⟨r_515, M_514, hc_513, h⟩ := bd2_of h
                  refine V_callV hE hG (ci := 1) (As := [.int 1]) (rest := []) (ok_f_X2_wrong hE hN hc_513) g_496 (by decide) rfl hw_X2_85 hdv_X2_wrong ⟨Nat.le_of_ble_eq_true rfl, Nat.le_of_ble_eq_true rfl⟩ rfl rfl (Nat.le_of_ble_eq_true rfl) ⟨by show _ + (LC - mN M_494) ≤ LC - mN M; omega, by show _ + (LZ - mZ M_494) ≤ LZ - mZ M; omega⟩ dX2_line_329 ?_
                  obtain ⟨g_516, h⟩ := gd_of h
                  obtain ⟨g_517, h⟩ := gd_of h
                  refine V_narrow hEn (fun n1 n2 n3 => ?_)
                  cases h
                  subst eQ
                  exact T_athrow hG (ci := 16) g_516 (by decide) rfl rfl rfl ⟨by show _ ≤ LC - mN M; omega, by show _ ≤ LZ - mZ M; omega⟩ dX2_line_332 hX
              · have h : some (Sum.inr (q_491, M_492)) = some res := hr_489 q_491 M_492 rfl
                cases h
                subst eQ
                exact T_callV hE hG (ci := 1) (As := [.int 0, .int 99999]) (rest := [rf E a_481]) ok_490 g_480 (by decide) rfl hw_X2_143 hdv_X2_number ⟨Nat.le_of_ble_eq_true rfl, Nat.le_of_ble_eq_true rfl⟩ rfl rfl (Nat.le_of_ble_eq_true rfl) ⟨by show _ + (LC - mN M_252) ≤ LC - mN M; omega, by show _ + (LZ - mZ M_252) ≤ LZ - mZ M; omega⟩ dX2_line_246 hX
            have h := if_f c_479 h
            refine V_tableOut hG 255 dX2_line_97 (by have := lv_neT c_253 (show Int32.toInt 0 = 0 from rfl); have := lv_neT c_292 (show Int32.toInt 1 = 1 from rfl); have := lv_neT c_325 (show Int32.toInt 2 = 2 from rfl); have := lv_neT c_358 (show Int32.toInt 3 = 3 from rfl); have := lv_neT c_440 (show Int32.toInt 4 = 4 from rfl); have := lv_neT c_479 (show Int32.toInt 5 = 5 from rfl); omega) (by decide) ?_
            refine V_aload_n hG 1 rfl dX2_line_255 ?_
            refine V_bipush hG 7 (by decide) dX2_line_256 ?_
            refine V_bipush hG 9 (by decide) dX2_line_258 ?_
            obtain ⟨g_518, h⟩ := gd_of h
            obtain ⟨g_519, h⟩ := gd_of h
            refine V_narrow hEn (fun n1 n2 n3 => ?_)
            obtain ⟨r_521, hc_520, h⟩ := bd_of h
            refine V_callV hE hG (ci := 1) (As := [.int 7, .int 9]) (rest := []) (ok_f_X2_isWord hE hN hc_520) g_518 (by decide) rfl hw_X2_132 hdv_X2_isWord ⟨Nat.le_of_ble_eq_true rfl, Nat.le_of_ble_eq_true rfl⟩ rfl rfl (Nat.le_of_ble_eq_true rfl) ⟨by show _ + 0 ≤ LC - mN M; omega, by show _ + 0 ≤ LZ - mZ M; omega⟩ dX2_line_260 ?_
            refine V_if_ne hG 272 dX2_line_263 (by decide) (fun c_522 => ?_) (fun c_522 => ?_)
            · have h := if_f c_522 h
              refine V_aload_n hG 1 rfl dX2_line_272 ?_
              refine gf_X2_47 hN hG g_518 dX2_line_273 ?_
              refine V_bipush hG 7 (by decide) dX2_line_276 ?_
              refine V_isub hG dX2_line_278 ?_
              obtain ⟨x4_523, ex4_523, h⟩ := be_of h
              refine V_topi ex4_523 ?_
              refine V_istore hG [(4, .int x4_523), (1, .int x1_16), (0, rf E p0)] dX2_line_279 (Nat.le_of_ble_eq_true rfl) rfl ?_
              refine V_aload_n hG 2 rfl dX2_line_281 ?_
              obtain ⟨a_524, hr_525, h⟩ := bd_of h
              refine gf_X2_111 hN hG g_518 hr_525 dX2_line_282 ?_
              obtain ⟨g_526, h⟩ := gd_of h
              obtain ⟨a_527, hr_528, h⟩ := bd_of h
              refine gf_X2_173 hN hG g_526 hr_528 dX2_line_285 ?_
              refine V_iload hG 0 rfl dX2_line_288 ?_
              obtain ⟨g_529, h⟩ := gd_of h
              obtain ⟨g_530, h⟩ := gd_of h
              refine W_aaloadQ5 hG g_529 g_530 dX2_line_290 ?_
              refine W_ifnull hG 300 dX2_line_291 (by decide) (fun c_531 => ?_) (fun c_531 => ?_)
              · have h := if_t c_531 h
                refine V_aload_n hG 2 rfl dX2_line_300 ?_
                obtain ⟨g_532, h⟩ := gd_of h
                refine V_narrow hEn (fun n1 n2 n3 => ?_)
                obtain ⟨M_534, hc_533, h⟩ := bd_of h
                refine V_callV hE hG (ci := 1) (As := []) (rest := []) (ok_f_X2_next hE hN hc_533) g_518 (by decide) rfl hw_X2_93 hdv_X2_next ⟨Nat.le_of_ble_eq_true rfl, Nat.le_of_ble_eq_true rfl⟩ rfl rfl (Nat.le_of_ble_eq_true rfl) ⟨by show _ + 0 ≤ LC - mN M; omega, by show _ + 0 ≤ LZ - mZ M; omega⟩ dX2_line_301 ?_
                refine V_aload_n hG 2 rfl dX2_line_304 ?_
                obtain ⟨g_535, h⟩ := gd_of h
                obtain ⟨a_536, hr_537, h⟩ := bd_of h
                refine gf_X2_111 hN hG g_535 hr_537 dX2_line_305 ?_
                obtain ⟨g_538, h⟩ := gd_of h
                obtain ⟨a_539, hr_540, h⟩ := bd_of h
                refine gf_X2_173 hN hG g_538 hr_540 dX2_line_308 ?_
                refine V_iload hG 0 rfl dX2_line_311 ?_
                refine V_aload_n hG 2 rfl dX2_line_313 ?_
                obtain ⟨g_541, h⟩ := gd_of h
                refine V_narrow hEn (fun n1 n2 n3 => ?_)
                obtain ⟨rs_545, hc_542, hl_546, hr_547⟩ := bt_of h
                have ok_548 := ok_f_X2_orT hE hN hc_542
                rcases rs_545 with ⟨r_544, M_543⟩ | ⟨q_549, M_550⟩
                · have h := hl_546 r_544 M_543 rfl
                  refine V_callV hE hG (ci := 1) (As := []) (rest := [.int x4_523, rf E a_539]) ok_548 g_535 (by decide) rfl hw_X2_177 hdv_X2_or ⟨Nat.le_of_ble_eq_true rfl, Nat.le_of_ble_eq_true rfl⟩ rfl rfl (Nat.le_of_ble_eq_true rfl) ⟨by show _ + (LC - mN M_534) ≤ LC - mN M; omega, by show _ + (LZ - mZ M_534) ≤ LZ - mZ M; omega⟩ dX2_line_314 ?_
                  obtain ⟨g_551, h⟩ := gd_of h
                  obtain ⟨g_552, h⟩ := gd_of h
                  obtain ⟨g_553, h⟩ := gd_of h
                  obtain ⟨M_554, eM_554, h⟩ := be_of h
                  refine as_5 hN hG g_551 g_552 g_553 eM_554 dX2_line_317 ?_
                  have g_555 : mT M_554 a_539 = 105 := by rw [eM_554]; exact g_551
                  have g_556 : mT M_554 r_544 = 10 ∨ mT M_554 r_544 = 11 ∨ mT M_554 r_544 = 12 ∨ mT M_554 r_544 = 13 := by rw [eM_554]; exact g_553
                  refine V_aload_n hG 2 rfl dX2_line_318 ?_
                  refine V_bipush hG 59 (by decide) dX2_line_319 ?_
                  obtain ⟨g_557, h⟩ := gd_of h
                  obtain ⟨g_558, h⟩ := gd_of h
                  refine V_narrow hEn (fun n1 n2 n3 => ?_)
                  obtain ⟨r_560, hc_559, h⟩ := bd_of h
                  refine V_callV hE hG (ci := 1) (As := [.int 59]) (rest := []) (ok_f_X2_isSign hE hN hc_559) g_557 (by decide) rfl hw_X2_181 hdv_X2_isSign ⟨Nat.le_of_ble_eq_true rfl, Nat.le_of_ble_eq_true rfl⟩ rfl rfl (Nat.le_of_ble_eq_true rfl) ⟨by show _ + 0 ≤ LC - mN M; omega, by show _ + 0 ≤ LZ - mZ M; omega⟩ dX2_line_321 ?_
                  refine V_if_ne hG 333 dX2_line_324 (by decide) (fun c_561 => ?_) (fun c_561 => ?_)
                  · have h := if_f c_561 h
                    refine V_aload_n hG 2 rfl dX2_line_333 ?_
                    obtain ⟨g_562, h⟩ := gd_of h
                    refine V_narrow hEn (fun n1 n2 n3 => ?_)
                    obtain ⟨M_564, hc_563, h⟩ := bd_of h
                    refine V_callV hE hG (ci := 1) (As := []) (rest := []) (ok_f_X2_next hE hN hc_563) g_557 (by decide) rfl hw_X2_93 hdv_X2_next ⟨Nat.le_of_ble_eq_true rfl, Nat.le_of_ble_eq_true rfl⟩ rfl rfl (Nat.le_of_ble_eq_true rfl) ⟨by show _ + 0 ≤ LC - mN M; omega, by show _ + 0 ≤ LZ - mZ M; omega⟩ dX2_line_334 ?_
                    refine V_aload_n hG 2 rfl dX2_line_337 ?_
                    obtain ⟨g_565, h⟩ := gd_of h
                    obtain ⟨a_566, hr_567, h⟩ := bd_of h
                    refine gf_X2_111 hN hG g_565 hr_567 dX2_line_338 ?_
                    refine V_dup hG rfl dX2_line_341 ?_
                    obtain ⟨g_568, h⟩ := gd_of h
                    refine gf_X2_136 hN hG g_568 dX2_line_342 ?_
                    refine V_iconst hG 1 rfl dX2_line_345 ?_
                    refine V_iadd hG dX2_line_346 ?_
                    obtain ⟨M_569, eM_569, h⟩ := be_of h
                    refine pf_X2_136 hN hG g_568 eM_569 dX2_line_347 ?_
                    have g_570 : mT M_569 p0 = 1 := by rw [eM_569]; exact g_565
                    have g_571 : mT M_569 a_566 = 2 := by rw [eM_569]; exact g_568
                    obtain ⟨g_572, h⟩ := gd_of h
                    refine V_narrow hEn (fun n1 n2 n3 => V_widen (k := LC - mN M) (n := LZ - mZ M) (by omega) (by omega) ?_)
                    cases h
                    subst eQ
                    exact V_vret hG dX2_line_350
                  · have h := if_t c_561 h
                    refine V_aload_n hG 2 rfl dX2_line_327 ?_
                    refine V_iconst hG 1 rfl dX2_line_328 ?_
                    obtain ⟨g_573, h⟩ := gd_of h
                    refine V_narrow hEn (fun n1 n2 n3 => ?_)
                    obtain ⟨r_576, M_575, hc_574, h⟩ := bd2_of h
                    refine V_callV hE hG (ci := 1) (As := [.int 1]) (rest := []) (ok_f_X2_wrong hE hN hc_574) g_557 (by decide) rfl hw_X2_85 hdv_X2_wrong ⟨Nat.le_of_ble_eq_true rfl, Nat.le_of_ble_eq_true rfl⟩ rfl rfl (Nat.le_of_ble_eq_true rfl) ⟨by show _ + (LC - mN M_554) ≤ LC - mN M; omega, by show _ + (LZ - mZ M_554) ≤ LZ - mZ M; omega⟩ dX2_line_329 ?_
                    obtain ⟨g_577, h⟩ := gd_of h
                    obtain ⟨g_578, h⟩ := gd_of h
                    refine V_narrow hEn (fun n1 n2 n3 => ?_)
                    cases h
                    subst eQ
                    exact T_athrow hG (ci := 16) g_577 (by decide) rfl rfl rfl ⟨by show _ ≤ LC - mN M; omega, by show _ ≤ LZ - mZ M; omega⟩ dX2_line_332 hX
                · have h : some (Sum.inr (q_549, M_550)) = some res := hr_547 q_549 M_550 rfl
                  cases h
                  subst eQ
                  exact T_callV hE hG (ci := 1) (As := []) (rest := [.int x4_523, rf E a_539]) ok_548 g_535 (by decide) rfl hw_X2_177 hdv_X2_or ⟨Nat.le_of_ble_eq_true rfl, Nat.le_of_ble_eq_true rfl⟩ rfl rfl (Nat.le_of_ble_eq_true rfl) ⟨by show _ + (LC - mN M_534) ≤ LC - mN M; omega, by show _ + (LZ - mZ M_534) ≤ LZ - mZ M; omega⟩ dX2_line_314 hX
              · have h := if_f c_531 h
                refine V_aload_n hG 2 rfl dX2_line_294 ?_
                refine V_iconst hG 3 rfl dX2_line_295 ?_
                obtain ⟨g_579, h⟩ := gd_of h
                refine V_narrow hEn (fun n1 n2 n3 => ?_)
                obtain ⟨r_582, M_581, hc_580, h⟩ := bd2_of h
                refine V_callV hE hG (ci := 1) (As := [.int 3]) (rest := []) (ok_f_X2_wrong hE hN hc_580) g_518 (by decide) rfl hw_X2_85 hdv_X2_wrong ⟨Nat.le_of_ble_eq_true rfl, Nat.le_of_ble_eq_true rfl⟩ rfl rfl (Nat.le_of_ble_eq_true rfl) ⟨by show _ + (LC - mN M_252) ≤ LC - mN M; omega, by show _ + (LZ - mZ M_252) ≤ LZ - mZ M; omega⟩ dX2_line_296 ?_
                obtain ⟨g_583, h⟩ := gd_of h
                obtain ⟨g_584, h⟩ := gd_of h
                refine V_narrow hEn (fun n1 n2 n3 => ?_)
                cases h
                subst eQ
                exact T_athrow hG (ci := 16) g_583 (by decide) rfl rfl rfl ⟨by show _ ≤ LC - mN M; omega, by show _ ≤ LZ - mZ M; omega⟩ dX2_line_299 hX
            · have h := if_t c_522 h
              refine V_aload_n hG 1 rfl dX2_line_266 ?_
              refine V_iconst hG 1 rfl dX2_line_267 ?_
              obtain ⟨g_585, h⟩ := gd_of h
              refine V_narrow hEn (fun n1 n2 n3 => ?_)
              obtain ⟨r_588, M_587, hc_586, h⟩ := bd2_of h
              refine V_callV hE hG (ci := 1) (As := [.int 1]) (rest := []) (ok_f_X2_wrong hE hN hc_586) g_518 (by decide) rfl hw_X2_85 hdv_X2_wrong ⟨Nat.le_of_ble_eq_true rfl, Nat.le_of_ble_eq_true rfl⟩ rfl rfl (Nat.le_of_ble_eq_true rfl) ⟨by show _ + (LC - mN M_252) ≤ LC - mN M; omega, by show _ + (LZ - mZ M_252) ≤ LZ - mZ M; omega⟩ dX2_line_268 ?_
              obtain ⟨g_589, h⟩ := gd_of h
              obtain ⟨g_590, h⟩ := gd_of h
              refine V_narrow hEn (fun n1 n2 n3 => ?_)
              cases h
              subst eQ
              exact T_athrow hG (ci := 16) g_589 (by decide) rfl rfl rfl ⟨by show _ ≤ LC - mN M; omega, by show _ ≤ LZ - mZ M; omega⟩ dX2_line_271 hX
          · have h := if_t c_247 h
            exact V_narrow hEn (fun _ _ _ => J_22 (()) h)
      · have h := if_f c_20 h
        refine V_aload_n hG 1 rfl dX2_line_46 ?_
        refine V_iconst hG 2 rfl dX2_line_47 ?_
        obtain ⟨g_591, h⟩ := gd_of h
        refine V_narrow hEn (fun n1 n2 n3 => ?_)
        obtain ⟨r_594, M_593, hc_592, h⟩ := bd2_of h
        refine V_callV hE hG (ci := 1) (As := [.int 2]) (rest := []) (ok_f_X2_wrong hE hN hc_592) g_15 (by decide) rfl hw_X2_85 hdv_X2_wrong ⟨Nat.le_of_ble_eq_true rfl, Nat.le_of_ble_eq_true rfl⟩ rfl rfl (Nat.le_of_ble_eq_true rfl) ⟨by show _ + (LC - mN M) ≤ LC - mN M; omega, by show _ + (LZ - mZ M) ≤ LZ - mZ M; omega⟩ dX2_line_48 ?_
        obtain ⟨g_595, h⟩ := gd_of h
        obtain ⟨g_596, h⟩ := gd_of h
        refine V_narrow hEn (fun n1 n2 n3 => ?_)
        cases h
        subst eQ
        exact T_athrow hG (ci := 16) g_595 (by decide) rfl rfl rfl ⟨by show _ ≤ LC - mN M; omega, by show _ ≤ LZ - mZ M; omega⟩ dX2_line_51 hX
    refine V_if_ne hG 33 dX2_line_14 (by decide) (fun c_597 => ?_) (fun c_597 => ?_)
    · have h := if_f c_597 h
      exact V_narrow hEn (fun _ _ _ => J_13 (()) h)
    · have h := if_t c_597 h
      refine V_aload_n hG 0 rfl dX2_line_17 ?_
      obtain ⟨a_598, hr_599, h⟩ := bd_of h
      refine gf_X2_111 hN hG g_1 hr_599 dX2_line_18 ?_
      obtain ⟨g_600, h⟩ := gd_of h
      refine gf_X2_136 hN hG g_600 dX2_line_21 ?_
      refine V_if_le hG 33 dX2_line_24 (by decide) (fun c_601 => ?_) (fun c_601 => ?_)
      · have h := if_t c_601 h
        exact V_narrow hEn (fun _ _ _ => J_13 (()) h)
      · have h := if_f c_601 h
        refine V_aload_n hG 0 rfl dX2_line_27 ?_
        refine V_iconst hG 1 rfl dX2_line_28 ?_
        obtain ⟨g_602, h⟩ := gd_of h
        refine V_narrow hEn (fun n1 n2 n3 => ?_)
        obtain ⟨r_605, M_604, hc_603, h⟩ := bd2_of h
        refine V_callV hE hG (ci := 1) (As := [.int 1]) (rest := []) (ok_f_X2_wrong hE hN hc_603) g_1 (by decide) rfl hw_X2_85 hdv_X2_wrong ⟨Nat.le_of_ble_eq_true rfl, Nat.le_of_ble_eq_true rfl⟩ rfl rfl (Nat.le_of_ble_eq_true rfl) ⟨by show _ + (LC - mN M) ≤ LC - mN M; omega, by show _ + (LZ - mZ M) ≤ LZ - mZ M; omega⟩ dX2_line_29 ?_
        obtain ⟨g_606, h⟩ := gd_of h
        obtain ⟨g_607, h⟩ := gd_of h
        refine V_narrow hEn (fun n1 n2 n3 => ?_)
        cases h
        subst eQ
        exact T_athrow hG (ci := 16) g_606 (by decide) rfl rfl rfl ⟨by show _ ≤ LC - mN M; omega, by show _ ≤ LZ - mZ M; omega⟩ dX2_line_32 hX

def f_X2_read_b1 (N : Nat) (LC LZ : Nat) (M : Mem) (p0 : Nat) (p1 : Int32) (S_26 : Mem) : Option (((Mem) ⊕ ((Nat × Mem) ⊕ (Nat × Mem))) ⊕ (Mem)) :=
gd (mT S_26 p0 = 1) (
if mI S_26 p0 3 = 4 then (
some (.inl (.inl S_26)))
else (
gd (mN S_26 ≤ LC ∧ mZ S_26 ≤ LZ) (
btv (f_X2_line N LC LZ p0 S_26) (fun (M_42 : Mem) =>
some (.inr M_42)) (fun (q_47 : Nat) (M_48 : Mem) => some (Sum.inl (Sum.inr (Sum.inr (q_47, M_48))))))))
def f_X2_read (N : Nat) (LC LZ : Nat) (p0 : Nat) (p1 : Int32) (M : Mem) : Option ((Nat × Mem) ⊕ (Nat × Mem)) :=
gd (mT M p0 = 1) (
be (sI M p0 0 0) fun (M_2 : Mem) =>
be (sI M_2 p0 1 p1) fun (M_4 : Mem) =>
be (sI M_4 p0 5 0) fun (M_6 : Mem) =>
be (sI M_6 p0 6 0) fun (M_8 : Mem) =>
gd (mN M_8 + 1 ≤ LC ∧ mZ M_8 + 9 ≤ LZ) (
be (nw M_8 2 9) fun (M_11 : Mem) =>
gd (mN M_11 ≤ LC ∧ mZ M_11 ≤ LZ) (
bd (f_X3_init LC LZ (mN M_8) M_11) fun (M_14 : Mem) =>
gd (mT M_14 p0 = 1) (
be (sR M_14 p0 7 (some (mN M_8))) fun (M_16 : Mem) =>
gd (mN M_16 ≤ LC ∧ mZ M_16 ≤ LZ) (
bd (f_X2_next N p0 M_16) fun (M_20 : Mem) =>
bx (lp N (fun s_37 : Mem => f_X2_read_b1 N LC LZ M p0 p1 s_37) M_20) (fun (S_28 : Mem) =>
gd (mT S_28 p0 = 1) (
bd (mR S_28 p0 7) fun (a_34 : Nat) =>
gd (mN S_28 ≤ LC ∧ mZ S_28 ≤ LZ) (
some (Sum.inl (a_34, S_28))))) (fun (w_51 : (Nat × Mem) ⊕ (Nat × Mem)) => some w_51))))))
def rm_f_X2_read (LC LZ : Nat) (M : Mem) : Room := { frames := 241, cells := LC - mN M, slots := LZ - mZ M, locals := 12100 }
theorem ok_f_X2_read {E : En} (hE : EOk E) (hN : NOk E) {N : Nat} {LC LZ : Nat} {p0 : Nat} {p1 : Int32} {M : Mem} {res : (Nat × Mem) ⊕ (Nat × Mem)} (h : f_X2_read N LC LZ p0 p1 M = some res) : RM E faF yX2_read cX2_read 2 (some (.object "TroughTreaty$Road")) (rm_f_X2_read LC LZ M) [rf E p0, .int p1] M ((rsA E) res) := by
  unfold f_X2_read at h
  refine RM_introX (own := RX2) rfl (by decide) (Nat.le_of_ble_eq_true rfl) rfl (fun G hG hEn hI hX => ?_)
  obtain ⟨Q, eQ⟩ : ∃ Q, Q = QR E G faF ((rsA E) res) (LC - mN M) (LZ - mZ M) := ⟨_, rfl⟩
  show V E G M 0 0 2 0 [(0, rf E p0), (1, .int p1)] [] (QR E G faF ((rsA E) res) (LC - mN M) (LZ - mZ M))
  rw [← eQ]
  refine V_aload_n hG 0 rfl dX2_read_0 ?_
  refine V_iconst hG 0 rfl dX2_read_1 ?_
  obtain ⟨g_1, h⟩ := gd_of h
  obtain ⟨M_2, eM_2, h⟩ := be_of h
  refine pf_X2_15 hN hG g_1 eM_2 dX2_read_2 ?_
  have g_3 : mT M_2 p0 = 1 := by rw [eM_2]; exact g_1
  refine V_aload_n hG 0 rfl dX2_read_5 ?_
  refine V_iload_n hG 1 rfl dX2_read_6 ?_
  obtain ⟨M_4, eM_4, h⟩ := be_of h
  refine pf_X2_19 hN hG g_3 eM_4 dX2_read_7 ?_
  have g_5 : mT M_4 p0 = 1 := by rw [eM_4]; exact g_3
  refine V_aload_n hG 0 rfl dX2_read_10 ?_
  refine V_iconst hG 0 rfl dX2_read_11 ?_
  obtain ⟨M_6, eM_6, h⟩ := be_of h
  refine pf_X2_102 hN hG g_5 eM_6 dX2_read_12 ?_
  have g_7 : mT M_6 p0 = 1 := by rw [eM_6]; exact g_5
  refine V_aload_n hG 0 rfl dX2_read_15 ?_
  refine V_iconst hG 0 rfl dX2_read_16 ?_
  obtain ⟨M_8, eM_8, h⟩ := be_of h
  refine pf_X2_105 hN hG g_7 eM_8 dX2_read_17 ?_
  have g_9 : mT M_8 p0 = 1 := by rw [eM_8]; exact g_7
  refine V_aload_n hG 0 rfl dX2_read_20 ?_
  obtain ⟨g_10, h⟩ := gd_of h
  obtain ⟨M_11, eM_11, h⟩ := be_of h
  refine nw_X2_108 hG hEn rfl rfl eM_11 g_10 dX2_read_21 ?_
  refine V_dup hG rfl dX2_read_24 ?_
  obtain ⟨g_12, h⟩ := gd_of h
  refine V_narrow hEn (fun n1 n2 n3 => ?_)
  obtain ⟨M_14, hc_13, h⟩ := bd_of h
  refine W_callIN hE hG hN (rt := none) (As := []) (rest := [rf E (mN M_8), rf E p0]) (ok_f_X3_init hE hN hc_13) q512 (lw_meth q211) q125 q210 rfl hdc_X3_init ⟨Nat.le_of_ble_eq_true rfl, Nat.le_of_ble_eq_true rfl⟩ rfl rfl (Nat.le_of_ble_eq_true rfl) ⟨by show _ + (LC - mN M_11) ≤ LC - mN M; omega, by show _ + (LZ - mZ M_11) ≤ LZ - mZ M; omega⟩ dX2_read_25 ?_
  obtain ⟨g_15, h⟩ := gd_of h
  obtain ⟨M_16, eM_16, h⟩ := be_of h
  refine pf_X2_111 hN hG g_15 eM_16 dX2_read_28 ?_
  have g_17 : mT M_16 p0 = 1 := by rw [eM_16]; exact g_15
  refine V_aload_n hG 0 rfl dX2_read_31 ?_
  obtain ⟨g_18, h⟩ := gd_of h
  refine V_narrow hEn (fun n1 n2 n3 => ?_)
  obtain ⟨M_20, hc_19, h⟩ := bd_of h
  refine V_callV hE hG (ci := 1) (As := []) (rest := []) (ok_f_X2_next hE hN hc_19) g_17 (by decide) rfl hw_X2_93 hdv_X2_next ⟨Nat.le_of_ble_eq_true rfl, Nat.le_of_ble_eq_true rfl⟩ rfl rfl (Nat.le_of_ble_eq_true rfl) ⟨by show _ + 0 ≤ LC - mN M; omega, by show _ + 0 ≤ LZ - mZ M; omega⟩ dX2_read_32 ?_
  obtain ⟨rr_30, hL_29, hl_31, hr_27⟩ := bx_of h
  have J_25 : ∀ q_32 : Mem, Sum.inl q_32 = rr_30 → V E G q_32 (mN q_32 - mN M) (mZ q_32 - mZ M) 2 50 [(0, rf E p0), (1, .int p1)] [] Q := by
    intro q_32 e9
    obtain ⟨S_28, rfl⟩ : ∃ z, z = q_32 := ⟨_, rfl⟩
    have h := hl_31 S_28 e9.symm
    show V E G S_28 (mN S_28 - mN M) (mZ S_28 - mZ M) 2 50 [(0, rf E p0), (1, .int p1)] [] Q
    refine V_aload_n hG 0 rfl dX2_read_50 ?_
    obtain ⟨g_33, h⟩ := gd_of h
    obtain ⟨a_34, hr_35, h⟩ := bd_of h
    refine gf_X2_111 hN hG g_33 hr_35 dX2_read_51 ?_
    obtain ⟨g_36, h⟩ := gd_of h
    refine V_narrow hEn (fun n1 n2 n3 => V_widen (k := LC - mN M) (n := LZ - mZ M) (by omega) (by omega) ?_)
    cases h
    subst eQ
    exact V_aret hG (Or.inr ⟨_, rfl⟩) dX2_read_54
  refine V_narrow hEn (fun _ _ _ => ?_)
  refine lp_walk (W := fun s_37 : Mem => V E G s_37 (mN s_37 - mN M) (mZ s_37 - mZ M) 2 35 [(0, rf E p0), (1, .int p1)] [] Q) ?_ N M_20 hL_29
  intro s_37 b_21 hb_22 hk_23 hx_24
  obtain ⟨S_26, rfl⟩ : ∃ z, z = s_37 := ⟨_, rfl⟩
  have hb_22 : f_X2_read_b1 N LC LZ M p0 p1 S_26 = some b_21 := hb_22
  unfold f_X2_read_b1 at hb_22
  show V E G S_26 (mN S_26 - mN M) (mZ S_26 - mZ M) 2 35 [(0, rf E p0), (1, .int p1)] [] Q
  refine V_aload_n hG 0 rfl dX2_read_35 ?_
  obtain ⟨g_38, hb_22⟩ := gd_of hb_22
  refine gf_X2_33 hN hG g_38 dX2_read_36 ?_
  refine V_iconst hG 4 rfl dX2_read_39 ?_
  refine V_icmp_eq hG 50 dX2_read_40 (by decide) (fun c_39 => ?_) (fun c_39 => ?_)
  · have hb_22 := if_t c_39 hb_22
    cases hb_22
    exact V_narrow hEn (fun _ _ _ => J_25 _ (hx_24 _ rfl))
  · have hb_22 := if_f c_39 hb_22
    refine V_aload_n hG 0 rfl dX2_read_43 ?_
    obtain ⟨g_40, hb_22⟩ := gd_of hb_22
    refine V_narrow hEn (fun n1 n2 n3 => ?_)
    obtain ⟨rs_43, hc_41, hl_44, hr_45⟩ := btv_of hb_22
    have ok_46 := ok_f_X2_line hE hN hc_41
    rcases rs_43 with M_42 | ⟨q_47, M_48⟩
    · have hb_22 := hl_44 M_42 rfl
      refine V_callV hE hG (ci := 1) (As := []) (rest := []) ok_46 g_38 (by decide) rfl hw_X2_115 hdv_X2_line ⟨Nat.le_of_ble_eq_true rfl, Nat.le_of_ble_eq_true rfl⟩ rfl rfl (Nat.le_of_ble_eq_true rfl) ⟨by show _ + (LC - mN S_26) ≤ LC - mN M; omega, by show _ + (LZ - mZ S_26) ≤ LZ - mZ M; omega⟩ dX2_read_44 ?_
      refine V_goto hG 35 dX2_read_47 (by decide) ?_
      cases hb_22
      exact V_narrow hEn (fun _ _ _ => hk_23 _ rfl)
    · have hb_22 : some (Sum.inl (Sum.inr (Sum.inr (q_47, M_48)))) = some b_21 := hr_45 q_47 M_48 rfl
      cases hb_22
      have e_49 := hx_24 _ rfl
      have h_50 : some (Sum.inr (q_47, M_48)) = some res := hr_27 _ e_49.symm
      cases h_50
      subst eQ
      exact T_callV hE hG (ci := 1) (As := []) (rest := []) ok_46 g_38 (by decide) rfl hw_X2_115 hdv_X2_line ⟨Nat.le_of_ble_eq_true rfl, Nat.le_of_ble_eq_true rfl⟩ rfl rfl (Nat.le_of_ble_eq_true rfl) ⟨by show _ + (LC - mN S_26) ≤ LC - mN M; omega, by show _ + (LZ - mZ S_26) ≤ LZ - mZ M; omega⟩ dX2_read_44 hX

