set_option maxRecDepth 100000
theorem V_topi {E : En} {G : Ctx} {M : Mem} {cells slots nL pc : Nat} {lv : List (Nat × Value)} {st : List Value} {Q : State → Prop} {x y : Int32} (e : y = x) (k : V E G M cells slots nL pc lv (.int y :: st) Q) : V E G M cells slots nL pc lv (.int x :: st) Q := e ▸ k
theorem V_topl {E : En} {G : Ctx} {M : Mem} {cells slots nL pc : Nat} {lv : List (Nat × Value)} {st : List Value} {Q : State → Prop} {x y : Int64} (e : y = x) (k : V E G M cells slots nL pc lv (.long y :: st) Q) : V E G M cells slots nL pc lv (.long x :: st) Q := e ▸ k
section V0
variable {E : En} {G : Ctx} {M M' : Mem} {cells slots nL pc : Nat} {lv lv' : List (Nat × Value)} {st st0 : List Value} {Q : State → Prop} {cc : ByteArray} {ret : Option FieldType} {own : String} {rm0 : Room} {y : MethodName} {bytes : ByteArray} {maxL n index : Nat} {rt : Option FieldType} {rm : Room} {As rest : List Value} {v : Option Value}
theorem V_callV0 (hE : EOk E) (hG : Cx E G cc nL ret own rm0) {a ci N : Nat} {C : String} {T : u_T} (hM : CM E y bytes maxL rt rm (rf E a :: As) M v M') (hT : mT M a = ci) (h99 : ci < 98) (hc : vwCl[ci]? = some (C, T, N)) (hW : GoodIn lw_all (wsV own index C y (ws_ y bytes maxL rt))) (hd : y.cls = C ∧ y.cls ≠ "java/lang/invoke/MethodHandle" ∧ y.cls ≠ "java/lang/invoke/VarHandle" ∧ (parseMethodDescriptor y.desc).map (fun d => d.parameters.length) = some n) (hR9 : rm.frames + 1 ≤ rm0.frames ∧ 8 + (maxL + 11) + rm.locals ≤ rm0.locals) (hn : As.length = n) (hst : st0 = As.reverse ++ rf E a :: rest) (hcat : (rest.map fun v => v.category).sum ≤ 8) (h0 : rm.cells = 0) (h1 : rm.slots = 0) (d : decode cc pc = .ok (.invokevirtual index, 3)) (k : V E G M' cells slots nL (pc + 3) lv (v.toList ++ rest) Q) (hf : cells ≤ rm0.cells ∧ slots ≤ rm0.slots := by exact ⟨Nat.zero_le _, Nat.zero_le _⟩) : V E G M cells slots nL pc lv st0 Q :=
  V_callV hE hG hM hT h99 hc hW hd hR9 hn hst hcat (by rw [h0, h1]; exact hf) d (by rw [h0, h1]; exact k)
theorem V_callS0 (hE : EOk E) (hG : Cx E G cc nL ret own rm0) (hM : CM E y bytes maxL rt rm As M v M') (hW : GoodIn lw_all (va_wsS own index y (ws_ y bytes maxL rt))) (hd : y.cls ≠ "java/lang/invoke/MethodHandle" ∧ y.cls ≠ "java/lang/invoke/VarHandle" ∧ (parseMethodDescriptor y.desc).map (fun d => d.parameters.length) = some n) (hR9 : rm.frames + 1 ≤ rm0.frames ∧ 8 + (maxL + 11) + rm.locals ≤ rm0.locals) (hn : As.length = n) (hst : st0 = As.reverse ++ rest) (hcat : (rest.map fun v => v.category).sum ≤ 8) (h0 : rm.cells = 0) (h1 : rm.slots = 0) (d : decode cc pc = .ok (.invokestatic index, 3)) (k : V E G M' cells slots nL (pc + 3) lv (v.toList ++ rest) Q) (hf : cells ≤ rm0.cells ∧ slots ≤ rm0.slots := by exact ⟨Nat.zero_le _, Nat.zero_le _⟩) : V E G M cells slots nL pc lv st0 Q :=
  V_callS hE hG hM hW hd hR9 hn hst hcat (by rw [h0, h1]; exact hf) d (by rw [h0, h1]; exact k)
end V0
def bx {α1 ρ β : Type} (x : Option ((α1) ⊕ ρ)) (f : α1 → Option β) (k : ρ → Option β) : Option β := match x with
  | none => none
  | some (.inl a1) => f a1
  | some (.inr q) => k q
theorem bx_of {α1 ρ β : Type} {x : Option ((α1) ⊕ ρ)} {f : α1 → Option β} {k : ρ → Option β} {r : β} (h : bx x f k = some r) : ∃ y, x = some y ∧ (∀ a1, y = .inl a1 → f a1 = some r) ∧ ∀ q, y = .inr q → k q = some r := by
  cases x with
  | none => cases h
  | some y => exact ⟨y, rfl, fun a1 e => by subst e; exact h, fun q e => by subst e; exact h⟩
def bx2 {α1 α2 ρ β : Type} (x : Option ((α1 × α2) ⊕ ρ)) (f : α1 → α2 → Option β) (k : ρ → Option β) : Option β := match x with
  | none => none
  | some (.inl (a1, a2)) => f a1 a2
  | some (.inr q) => k q
theorem bx2_of {α1 α2 ρ β : Type} {x : Option ((α1 × α2) ⊕ ρ)} {f : α1 → α2 → Option β} {k : ρ → Option β} {r : β} (h : bx2 x f k = some r) : ∃ y, x = some y ∧ (∀ a1 a2, y = .inl (a1, a2) → f a1 a2 = some r) ∧ ∀ q, y = .inr q → k q = some r := by
  cases x with
  | none => cases h
  | some y => exact ⟨y, rfl, fun a1 a2 e => by subst e; exact h, fun q e => by subst e; exact h⟩
def bx3 {α1 α2 α3 ρ β : Type} (x : Option ((α1 × α2 × α3) ⊕ ρ)) (f : α1 → α2 → α3 → Option β) (k : ρ → Option β) : Option β := match x with
  | none => none
  | some (.inl (a1, a2, a3)) => f a1 a2 a3
  | some (.inr q) => k q
theorem bx3_of {α1 α2 α3 ρ β : Type} {x : Option ((α1 × α2 × α3) ⊕ ρ)} {f : α1 → α2 → α3 → Option β} {k : ρ → Option β} {r : β} (h : bx3 x f k = some r) : ∃ y, x = some y ∧ (∀ a1 a2 a3, y = .inl (a1, a2, a3) → f a1 a2 a3 = some r) ∧ ∀ q, y = .inr q → k q = some r := by
  cases x with
  | none => cases h
  | some y => exact ⟨y, rfl, fun a1 a2 a3 e => by subst e; exact h, fun q e => by subst e; exact h⟩
def bx4 {α1 α2 α3 α4 ρ β : Type} (x : Option ((α1 × α2 × α3 × α4) ⊕ ρ)) (f : α1 → α2 → α3 → α4 → Option β) (k : ρ → Option β) : Option β := match x with
  | none => none
  | some (.inl (a1, a2, a3, a4)) => f a1 a2 a3 a4
  | some (.inr q) => k q
theorem bx4_of {α1 α2 α3 α4 ρ β : Type} {x : Option ((α1 × α2 × α3 × α4) ⊕ ρ)} {f : α1 → α2 → α3 → α4 → Option β} {k : ρ → Option β} {r : β} (h : bx4 x f k = some r) : ∃ y, x = some y ∧ (∀ a1 a2 a3 a4, y = .inl (a1, a2, a3, a4) → f a1 a2 a3 a4 = some r) ∧ ∀ q, y = .inr q → k q = some r := by
  cases x with
  | none => cases h
  | some y => exact ⟨y, rfl, fun a1 a2 a3 a4 e => by subst e; exact h, fun q e => by subst e; exact h⟩
def bx5 {α1 α2 α3 α4 α5 ρ β : Type} (x : Option ((α1 × α2 × α3 × α4 × α5) ⊕ ρ)) (f : α1 → α2 → α3 → α4 → α5 → Option β) (k : ρ → Option β) : Option β := match x with
  | none => none
  | some (.inl (a1, a2, a3, a4, a5)) => f a1 a2 a3 a4 a5
  | some (.inr q) => k q
theorem bx5_of {α1 α2 α3 α4 α5 ρ β : Type} {x : Option ((α1 × α2 × α3 × α4 × α5) ⊕ ρ)} {f : α1 → α2 → α3 → α4 → α5 → Option β} {k : ρ → Option β} {r : β} (h : bx5 x f k = some r) : ∃ y, x = some y ∧ (∀ a1 a2 a3 a4 a5, y = .inl (a1, a2, a3, a4, a5) → f a1 a2 a3 a4 a5 = some r) ∧ ∀ q, y = .inr q → k q = some r := by
  cases x with
  | none => cases h
  | some y => exact ⟨y, rfl, fun a1 a2 a3 a4 a5 e => by subst e; exact h, fun q e => by subst e; exact h⟩
def bx6 {α1 α2 α3 α4 α5 α6 ρ β : Type} (x : Option ((α1 × α2 × α3 × α4 × α5 × α6) ⊕ ρ)) (f : α1 → α2 → α3 → α4 → α5 → α6 → Option β) (k : ρ → Option β) : Option β := match x with
  | none => none
  | some (.inl (a1, a2, a3, a4, a5, a6)) => f a1 a2 a3 a4 a5 a6
  | some (.inr q) => k q
theorem bx6_of {α1 α2 α3 α4 α5 α6 ρ β : Type} {x : Option ((α1 × α2 × α3 × α4 × α5 × α6) ⊕ ρ)} {f : α1 → α2 → α3 → α4 → α5 → α6 → Option β} {k : ρ → Option β} {r : β} (h : bx6 x f k = some r) : ∃ y, x = some y ∧ (∀ a1 a2 a3 a4 a5 a6, y = .inl (a1, a2, a3, a4, a5, a6) → f a1 a2 a3 a4 a5 a6 = some r) ∧ ∀ q, y = .inr q → k q = some r := by
  cases x with
  | none => cases h
  | some y => exact ⟨y, rfl, fun a1 a2 a3 a4 a5 a6 e => by subst e; exact h, fun q e => by subst e; exact h⟩
def bx7 {α1 α2 α3 α4 α5 α6 α7 ρ β : Type} (x : Option ((α1 × α2 × α3 × α4 × α5 × α6 × α7) ⊕ ρ)) (f : α1 → α2 → α3 → α4 → α5 → α6 → α7 → Option β) (k : ρ → Option β) : Option β := match x with
  | none => none
  | some (.inl (a1, a2, a3, a4, a5, a6, a7)) => f a1 a2 a3 a4 a5 a6 a7
  | some (.inr q) => k q
theorem bx7_of {α1 α2 α3 α4 α5 α6 α7 ρ β : Type} {x : Option ((α1 × α2 × α3 × α4 × α5 × α6 × α7) ⊕ ρ)} {f : α1 → α2 → α3 → α4 → α5 → α6 → α7 → Option β} {k : ρ → Option β} {r : β} (h : bx7 x f k = some r) : ∃ y, x = some y ∧ (∀ a1 a2 a3 a4 a5 a6 a7, y = .inl (a1, a2, a3, a4, a5, a6, a7) → f a1 a2 a3 a4 a5 a6 a7 = some r) ∧ ∀ q, y = .inr q → k q = some r := by
  cases x with
  | none => cases h
  | some y => exact ⟨y, rfl, fun a1 a2 a3 a4 a5 a6 a7 e => by subst e; exact h, fun q e => by subst e; exact h⟩
def bx8 {α1 α2 α3 α4 α5 α6 α7 α8 ρ β : Type} (x : Option ((α1 × α2 × α3 × α4 × α5 × α6 × α7 × α8) ⊕ ρ)) (f : α1 → α2 → α3 → α4 → α5 → α6 → α7 → α8 → Option β) (k : ρ → Option β) : Option β := match x with
  | none => none
  | some (.inl (a1, a2, a3, a4, a5, a6, a7, a8)) => f a1 a2 a3 a4 a5 a6 a7 a8
  | some (.inr q) => k q
theorem bx8_of {α1 α2 α3 α4 α5 α6 α7 α8 ρ β : Type} {x : Option ((α1 × α2 × α3 × α4 × α5 × α6 × α7 × α8) ⊕ ρ)} {f : α1 → α2 → α3 → α4 → α5 → α6 → α7 → α8 → Option β} {k : ρ → Option β} {r : β} (h : bx8 x f k = some r) : ∃ y, x = some y ∧ (∀ a1 a2 a3 a4 a5 a6 a7 a8, y = .inl (a1, a2, a3, a4, a5, a6, a7, a8) → f a1 a2 a3 a4 a5 a6 a7 a8 = some r) ∧ ∀ q, y = .inr q → k q = some r := by
  cases x with
  | none => cases h
  | some y => exact ⟨y, rfl, fun a1 a2 a3 a4 a5 a6 a7 a8 e => by subst e; exact h, fun q e => by subst e; exact h⟩
theorem hw7_154 : GoodIn lw_all (wsV RX7 154 RX7 yX7_plain (ws_ yX7_plain cX7_plain 2 none)) := lw_V q1538 q1540 qs56 q134 q1541
theorem hw7_157 : GoodIn lw_all (wsV RX7 157 RX7 yX7_keepText (ws_ yX7_keepText cX7_keepText 2 none)) := lw_V q1542 q1544 qs57 q134 q1545
theorem hw7_181 : GoodIn lw_all (wsV RX7 181 RX7 yX7_isSmall (ws_ yX7_isSmall cX7_isSmall 2 (some .boolean))) := lw_V q1830 q1832 qs62 q134 q1833
theorem hw7_185 : GoodIn lw_all (wsV RX7 185 RX7 yX7_wordAt (ws_ yX7_wordAt cX7_wordAt 8 (some .int))) := lw_V q1834 q1836 qs63 q134 q1837
theorem hw7_192 : GoodIn lw_all (wsV RX7 192 RX7 yX7_packed (ws_ yX7_packed cX7_packed 5 (some .int))) := lw_V q1838 q1840 qs64 q134 q1841
theorem hw7_195 : GoodIn lw_all (wsV RX7 195 RX7 yX7_isDigit (ws_ yX7_isDigit cX7_isDigit 2 (some .boolean))) := lw_V q1842 q1844 qs65 q134 q1845
theorem hw7_199 : GoodIn lw_all (wsV RX7 199 RX7 yX7_signToken (ws_ yX7_signToken cX7_signToken 4 none)) := lw_V q1847 q1849 qs66 q134 q1850
theorem hw7_202 : GoodIn lw_all (wsV RX7 202 RX7 yX7_wrong (ws_ yX7_wrong cX7_wrong 2 (some .boolean))) := lw_V q1855 q1857 qs68 q134 q1858
theorem hw7_205 : GoodIn lw_all (va_wsS RX7 205 yX7_isIn (ws_ yX7_isIn cX7_isIn 3 (some .boolean))) := lw_S q1867 q1868 q134 q1869
theorem hw7_212 : GoodIn lw_all (wsV RX7 212 RX7 yX7_token (ws_ yX7_token cX7_token 1 none)) := lw_V q1826 q1828 qs61 q134 q1829
theorem hw7_215 : GoodIn lw_all (wsV RX7 215 RX7 yX7_isSign (ws_ yX7_isSign cX7_isSign 2 (some .boolean))) := lw_V q1901 q1903 qs78 q134 q1904
theorem hw7_218 : GoodIn lw_all (wsV RX7 218 RX7 yX7_number (ws_ yX7_number cX7_number 3 (some .boolean))) := lw_V q1863 q1865 qs70 q134 q1866
theorem hw7_258 : GoodIn lw_all (va_wsS RX7 258 yX7_copies (ws_ yX7_copies cX7_copies 3 none)) := lw_S q1546 q1547 q134 q1548
theorem hw7_262 : GoodIn lw_all (wsV RX7 262 RX7 yX7_begin (ws_ yX7_begin cX7_begin 1 none)) := lw_V q1549 q1551 qs58 q134 q1552
theorem hw7_265 : GoodIn lw_all (va_wsS RX7 265 yX7_find (ws_ yX7_find cX7_find 5 (some .int))) := lw_S q1878 q1879 q134 q1880
theorem hw7_269 : GoodIn lw_all (wsV RX7 269 RX7 yX7_newName (ws_ yX7_newName cX7_newName 4 (some .boolean))) := lw_V q1874 q1876 qs72 q134 q1877
theorem hw7_273 : GoodIn lw_all (wsV RX7 273 RX7 yX7_thereIn (ws_ yX7_thereIn cX7_thereIn 5 (some .boolean))) := lw_V q1889 q1891 qs75 q134 q1892
theorem hw7_276 : GoodIn lw_all (wsV RX7 276 RX7 yX7_roadLine (ws_ yX7_roadLine cX7_roadLine 1 (some .boolean))) := lw_V q1859 q1861 qs69 q134 q1862
theorem hw7_280 : GoodIn lw_all (wsV RX7 280 RX7 yX7_troughLine (ws_ yX7_troughLine cX7_troughLine 3 (some .boolean))) := lw_V q1870 q1872 qs71 q134 q1873
theorem hw7_283 : GoodIn lw_all (wsV RX7 283 RX7 yX7_horseLine (ws_ yX7_horseLine cX7_horseLine 2 (some .boolean))) := lw_V q1881 q1883 qs73 q134 q1884
theorem hw7_286 : GoodIn lw_all (wsV RX7 286 RX7 yX7_lapLine (ws_ yX7_lapLine cX7_lapLine 2 (some .boolean))) := lw_V q1885 q1887 qs74 q134 q1888
theorem hw7_289 : GoodIn lw_all (wsV RX7 289 RX7 yX7_onceLine (ws_ yX7_onceLine cX7_onceLine 3 (some .boolean))) := lw_V q1893 q1895 qs76 q134 q1896
theorem hw7_292 : GoodIn lw_all (wsV RX7 292 RX7 yX7_sumRead (ws_ yX7_sumRead cX7_sumRead 1 (some .boolean))) := lw_V q1897 q1899 qs77 q134 q1900
theorem hw7_295 : GoodIn lw_all (wsV RX7 295 RX7 yX7_lineRead (ws_ yX7_lineRead cX7_lineRead 3 (some .boolean))) := lw_V q1851 q1853 qs67 q134 q1854
theorem hw7_304 : GoodIn lw_all (va_wsS RX7 304 yX7_rank (ws_ yX7_rank cX7_rank 1 (some .int))) := lw_S q1937 q1938 q134 q1939
theorem hw7_308 : GoodIn lw_all (wsV RX7 308 RX7 yX7_dropHeld (ws_ yX7_dropHeld cX7_dropHeld 1 (some .int))) := lw_V q1940 q1942 qs87 q134 q1943
theorem hw7_312 : GoodIn lw_all (wsV RX7 312 RX7 yX7_grown (ws_ yX7_grown cX7_grown 4 none)) := lw_V q1925 q1927 qs84 q134 q1928
theorem hw7_319 : GoodIn lw_all (wsV RX7 319 RX7 yX7_waitsFor (ws_ yX7_waitsFor cX7_waitsFor 2 none)) := lw_V q1909 q1911 qs80 q134 q1912
theorem hw7_327 : GoodIn lw_all (wsV RX7 327 RX7 yX7_isKey (ws_ yX7_isKey cX7_isKey 2 (some .boolean))) := lw_V q1913 q1915 qs81 q134 q1916
theorem hw7_330 : GoodIn lw_all (wsV RX7 330 RX7 yX7_isCounted (ws_ yX7_isCounted cX7_isCounted 1 (some .boolean))) := lw_V q1917 q1919 qs82 q134 q1920
theorem hw7_333 : GoodIn lw_all (wsV RX7 333 RX7 yX7_nameMet (ws_ yX7_nameMet cX7_nameMet 1 (some .int))) := lw_V q1921 q1923 qs83 q134 q1924
theorem hw7_339 : GoodIn lw_all (wsV RX7 339 RX7 yX7_bind (ws_ yX7_bind cX7_bind 5 none)) := lw_V q1933 q1935 qs86 q134 q1936
theorem hw7_342 : GoodIn lw_all (wsV RX7 342 RX7 yX7_leafRead (ws_ yX7_leafRead cX7_leafRead 2 (some .boolean))) := lw_V q1905 q1907 qs79 q134 q1908
theorem hw7_345 : GoodIn lw_all (wsV RX7 345 RX7 yX7_signs (ws_ yX7_signs cX7_signs 2 (some .boolean))) := lw_V q1929 q1931 qs85 q134 q1932
theorem hw7_355 : GoodIn lw_all (wsV RX7 355 RX7 yX7_bounded (ws_ yX7_bounded cX7_bounded 3 (some .long))) := lw_V q2004 q2006 qs97 q134 q2007
theorem hw7_359 : GoodIn lw_all (wsV RX7 359 RX7 yX7_times (ws_ yX7_times cX7_times 6 (some .long))) := lw_V q2010 q2012 qs98 q134 q2013
theorem hw7_363 : GoodIn lw_all (va_wsS RX7 363 yX7_compares (ws_ yX7_compares cX7_compares 5 (some .boolean))) := lw_S q2014 q2015 q134 q2016
theorem hw7_367 : GoodIn lw_all (wsV RX7 367 RX7 yX7_atFirst (ws_ yX7_atFirst cX7_atFirst 3 none)) := lw_V q1553 q1555 qs59 q134 q1556
theorem hw7_374 : GoodIn lw_all (wsV RX7 374 RX7 yX7_plainTried (ws_ yX7_plainTried cX7_plainTried 1 none)) := lw_V q1557 q1559 qs60 q134 q1560
theorem hw7_398 : GoodIn lw_all (va_wsS RX7 398 yX7_sizeOf (ws_ yX7_sizeOf cX7_sizeOf 1 (some .int))) := lw_S q1993 q1994 q134 q1995
theorem hw7_401 : GoodIn lw_all (wsV RX7 401 RX7 yX7_troughAt (ws_ yX7_troughAt cX7_troughAt 2 (some .int))) := lw_V q1981 q1983 qs92 q134 q1984
theorem hw7_404 : GoodIn lw_all (wsV RX7 404 RX7 yX7_paceOf (ws_ yX7_paceOf cX7_paceOf 2 (some .int))) := lw_V q1985 q1987 qs93 q134 q1988
theorem hw7_407 : GoodIn lw_all (wsV RX7 407 RX7 yX7_farOf (ws_ yX7_farOf cX7_farOf 3 (some .int))) := lw_V q1989 q1991 qs94 q134 q1992
theorem hw7_410 : GoodIn lw_all (wsV RX7 410 RX7 yX7_valueOf (ws_ yX7_valueOf cX7_valueOf 6 (some .long))) := lw_V q2000 q2002 qs96 q134 q2003
theorem hw7_414 : GoodIn lw_all (wsV RX7 414 RX7 yX7_layNames (ws_ yX7_layNames cX7_layNames 5 none)) := lw_V q1977 q1979 qs91 q134 q1980
theorem hw7_418 : GoodIn lw_all (wsV RX7 418 RX7 yX7_lawOf (ws_ yX7_lawOf cX7_lawOf 3 (some .long))) := lw_V q1996 q1998 qs95 q134 q1999
theorem hw7_431 : GoodIn lw_all (wsV RX7 431 RX7 yX7_number1 (ws_ yX7_number1 cX7_number1 2 (some .int))) := lw_V q2070 q2072 qs108 q134 q2073
theorem hw7_434 : GoodIn lw_all (wsV RX7 434 RX7 yX7_boundLaw (ws_ yX7_boundLaw cX7_boundLaw 7 (some .int))) := lw_V q2049 q2051 qs103 q134 q2052
theorem hw7_441 : GoodIn lw_all (wsV RX7 441 RX7 yX7_more (ws_ yX7_more cX7_more 3 (some .int))) := lw_V q2062 q2064 qs106 q134 q2065
theorem hw7_444 : GoodIn lw_all (wsV RX7 444 RX7 yX7_walks (ws_ yX7_walks cX7_walks 6 none)) := lw_V q2045 q2047 qs102 q134 q2048
theorem hw7_447 : GoodIn lw_all (wsV RX7 447 RX7 yX7_drinks (ws_ yX7_drinks cX7_drinks 6 none)) := lw_V q2054 q2056 qs104 q134 q2057
theorem hw7_450 : GoodIn lw_all (wsV RX7 450 RX7 yX7_meets (ws_ yX7_meets cX7_meets 7 none)) := lw_V q2058 q2060 qs105 q134 q2061
theorem hw7_453 : GoodIn lw_all (wsV RX7 453 RX7 yX7_isRain (ws_ yX7_isRain cX7_isRain 1 (some .boolean))) := lw_V q2066 q2068 qs107 q134 q2069
theorem hw7_456 : GoodIn lw_all (wsV RX7 456 RX7 yX7_hourGoes (ws_ yX7_hourGoes cX7_hourGoes 4 none)) := lw_V q2041 q2043 qs101 q134 q2044
theorem hw7_459 : GoodIn lw_all (wsV RX7 459 RX7 yX7_isHorse (ws_ yX7_isHorse cX7_isHorse 2 (some .boolean))) := lw_V q1956 q1958 qs88 q134 q1959
theorem hw7_462 : GoodIn lw_all (wsV RX7 462 RX7 yX7_fails (ws_ yX7_fails cX7_fails 2 (some .int))) := lw_V q1960 q1962 qs89 q134 q1963
theorem hw7_465 : GoodIn lw_all (wsV RX7 465 RX7 yX7_isTrough (ws_ yX7_isTrough cX7_isTrough 2 (some .boolean))) := lw_V q1968 q1970 qs90 q134 q1971
theorem hw7_470 : GoodIn lw_all (wsV RX7 470 RX7 yX7_remember (ws_ yX7_remember cX7_remember 2 none)) := lw_V q2021 q2023 qs99 q134 q2024
theorem hw7_473 : GoodIn lw_all (wsV RX7 473 RX7 yX7_layTried (ws_ yX7_layTried cX7_layTried 2 none)) := lw_V q2082 q2084 qs109 q134 q2085
theorem hw7_476 : GoodIn lw_all (wsV RX7 476 RX7 yX7_goMany (ws_ yX7_goMany cX7_goMany 3 none)) := lw_V q2086 q2088 qs110 q134 q2089
theorem hw7_479 : GoodIn lw_all (wsV RX7 479 RX7 yX7_onMany (ws_ yX7_onMany cX7_onMany 4 (some .int))) := lw_V q2090 q2092 qs111 q134 q2093
theorem hw7_482 : GoodIn lw_all (wsV RX7 482 RX7 yX7_areTwo (ws_ yX7_areTwo cX7_areTwo 3 (some .boolean))) := lw_V q2106 q2108 qs112 q134 q2109
theorem hw7_485 : GoodIn lw_all (va_wsS RX7 485 yX7_manyOf (ws_ yX7_manyOf cX7_manyOf 3 (some .int))) := lw_S q2118 q2119 q134 q2120
theorem hw7_488 : GoodIn lw_all (va_wsS RX7 488 yX7_isOf (ws_ yX7_isOf cX7_isOf 2 (some .boolean))) := lw_S q2121 q2122 q134 q2123
theorem hw7_491 : GoodIn lw_all (wsV RX7 491 RX7 yX7_legOf (ws_ yX7_legOf cX7_legOf 4 (some .int))) := lw_V q2128 q2130 qs113 q134 q2131
theorem hw7_495 : GoodIn lw_all (wsV RX7 495 RX7 yX7_isCovered (ws_ yX7_isCovered cX7_isCovered 6 (some .boolean))) := lw_V q2140 q2142 qs114 q134 q2143
theorem hw7_498 : GoodIn lw_all (wsV RX7 498 RX7 yX7_hasBy (ws_ yX7_hasBy cX7_hasBy 5 (some .int))) := lw_V q2172 q2174 qs116 q134 q2175
theorem hw7_501 : GoodIn lw_all (wsV RX7 501 RX7 yX7_restAt (ws_ yX7_restAt cX7_restAt 8 (some .int))) := lw_V q2168 q2170 qs115 q134 q2171
theorem hw7_508 : GoodIn lw_all (wsV RX7 508 RX7 yX7_noted (ws_ yX7_noted cX7_noted 5 (some .int))) := lw_V q2206 q2208 qs117 q134 q2209
theorem hw7_511 : GoodIn lw_all (wsV RX7 511 RX7 yX7_knownBy (ws_ yX7_knownBy cX7_knownBy 1 (some .int))) := lw_V q2222 q2224 qs118 q134 q2225
theorem hw7_514 : GoodIn lw_all (wsV RX7 514 RX7 yX7_isSo (ws_ yX7_isSo cX7_isSo 3 (some .boolean))) := lw_V q2230 q2232 qs120 q134 q2233
theorem hw7_517 : GoodIn lw_all (wsV RX7 517 RX7 yX7_fits (ws_ yX7_fits cX7_fits 4 (some .boolean))) := lw_V q2226 q2228 qs119 q134 q2229
theorem hw7_520 : GoodIn lw_all (wsV RX7 520 RX7 yX7_put (ws_ yX7_put cX7_put 4 none)) := lw_V q2025 q2027 qs100 q134 q2028
theorem hw7_523 : GoodIn lw_all (wsV RX7 523 RX7 yX7_take (ws_ yX7_take cX7_take 4 none)) := lw_V q2246 q2248 qs121 q134 q2249
theorem hd_tw_bounded : yX7_bounded.cls = RX7 ∧ yX7_bounded.cls ≠ "java/lang/invoke/MethodHandle" ∧ yX7_bounded.cls ≠ "java/lang/invoke/VarHandle" ∧ (parseMethodDescriptor yX7_bounded.desc).map (fun d => d.parameters.length) = some 1 := by decide +kernel
theorem hd_tw_compares : yX7_compares.cls ≠ "java/lang/invoke/MethodHandle" ∧ yX7_compares.cls ≠ "java/lang/invoke/VarHandle" ∧ (parseMethodDescriptor yX7_compares.desc).map (fun d => d.parameters.length) = some 3 := by decide +kernel
theorem hd_tw_times : yX7_times.cls = RX7 ∧ yX7_times.cls ≠ "java/lang/invoke/MethodHandle" ∧ yX7_times.cls ≠ "java/lang/invoke/VarHandle" ∧ (parseMethodDescriptor yX7_times.desc).map (fun d => d.parameters.length) = some 2 := by decide +kernel
theorem hd_tw_valueOf : yX7_valueOf.cls = RX7 ∧ yX7_valueOf.cls ≠ "java/lang/invoke/MethodHandle" ∧ yX7_valueOf.cls ≠ "java/lang/invoke/VarHandle" ∧ (parseMethodDescriptor yX7_valueOf.desc).map (fun d => d.parameters.length) = some 1 := by decide +kernel
theorem hd_tw_lawOf : yX7_lawOf.cls = RX7 ∧ yX7_lawOf.cls ≠ "java/lang/invoke/MethodHandle" ∧ yX7_lawOf.cls ≠ "java/lang/invoke/VarHandle" ∧ (parseMethodDescriptor yX7_lawOf.desc).map (fun d => d.parameters.length) = some 1 := by decide +kernel
theorem hd_tw_sizeOf : yX7_sizeOf.cls ≠ "java/lang/invoke/MethodHandle" ∧ yX7_sizeOf.cls ≠ "java/lang/invoke/VarHandle" ∧ (parseMethodDescriptor yX7_sizeOf.desc).map (fun d => d.parameters.length) = some 1 := by decide +kernel
theorem hd_tw_farOf : yX7_farOf.cls = RX7 ∧ yX7_farOf.cls ≠ "java/lang/invoke/MethodHandle" ∧ yX7_farOf.cls ≠ "java/lang/invoke/VarHandle" ∧ (parseMethodDescriptor yX7_farOf.desc).map (fun d => d.parameters.length) = some 2 := by decide +kernel
theorem hd_tw_paceOf : yX7_paceOf.cls = RX7 ∧ yX7_paceOf.cls ≠ "java/lang/invoke/MethodHandle" ∧ yX7_paceOf.cls ≠ "java/lang/invoke/VarHandle" ∧ (parseMethodDescriptor yX7_paceOf.desc).map (fun d => d.parameters.length) = some 1 := by decide +kernel
theorem hd_tw_find : yX7_find.cls ≠ "java/lang/invoke/MethodHandle" ∧ yX7_find.cls ≠ "java/lang/invoke/VarHandle" ∧ (parseMethodDescriptor yX7_find.desc).map (fun d => d.parameters.length) = some 4 := by decide +kernel
theorem hd_tw_troughAt : yX7_troughAt.cls = RX7 ∧ yX7_troughAt.cls ≠ "java/lang/invoke/MethodHandle" ∧ yX7_troughAt.cls ≠ "java/lang/invoke/VarHandle" ∧ (parseMethodDescriptor yX7_troughAt.desc).map (fun d => d.parameters.length) = some 1 := by decide +kernel
theorem hd_tw_layNames : yX7_layNames.cls = RX7 ∧ yX7_layNames.cls ≠ "java/lang/invoke/MethodHandle" ∧ yX7_layNames.cls ≠ "java/lang/invoke/VarHandle" ∧ (parseMethodDescriptor yX7_layNames.desc).map (fun d => d.parameters.length) = some 2 := by decide +kernel
theorem hd_tw_boundLaw : yX7_boundLaw.cls = RX7 ∧ yX7_boundLaw.cls ≠ "java/lang/invoke/MethodHandle" ∧ yX7_boundLaw.cls ≠ "java/lang/invoke/VarHandle" ∧ (parseMethodDescriptor yX7_boundLaw.desc).map (fun d => d.parameters.length) = some 4 := by decide +kernel
theorem hd_tw_drinks : yX7_drinks.cls = RX7 ∧ yX7_drinks.cls ≠ "java/lang/invoke/MethodHandle" ∧ yX7_drinks.cls ≠ "java/lang/invoke/VarHandle" ∧ (parseMethodDescriptor yX7_drinks.desc).map (fun d => d.parameters.length) = some 2 := by decide +kernel
theorem hd_tw_number1 : yX7_number1.cls = RX7 ∧ yX7_number1.cls ≠ "java/lang/invoke/MethodHandle" ∧ yX7_number1.cls ≠ "java/lang/invoke/VarHandle" ∧ (parseMethodDescriptor yX7_number1.desc).map (fun d => d.parameters.length) = some 1 := by decide +kernel
theorem hd_tw_isRain : yX7_isRain.cls = RX7 ∧ yX7_isRain.cls ≠ "java/lang/invoke/MethodHandle" ∧ yX7_isRain.cls ≠ "java/lang/invoke/VarHandle" ∧ (parseMethodDescriptor yX7_isRain.desc).map (fun d => d.parameters.length) = some 0 := by decide +kernel
theorem hd_tw_more : yX7_more.cls = RX7 ∧ yX7_more.cls ≠ "java/lang/invoke/MethodHandle" ∧ yX7_more.cls ≠ "java/lang/invoke/VarHandle" ∧ (parseMethodDescriptor yX7_more.desc).map (fun d => d.parameters.length) = some 2 := by decide +kernel
theorem hd_tw_meets : yX7_meets.cls = RX7 ∧ yX7_meets.cls ≠ "java/lang/invoke/MethodHandle" ∧ yX7_meets.cls ≠ "java/lang/invoke/VarHandle" ∧ (parseMethodDescriptor yX7_meets.desc).map (fun d => d.parameters.length) = some 3 := by decide +kernel
theorem hd_tw_walks : yX7_walks.cls = RX7 ∧ yX7_walks.cls ≠ "java/lang/invoke/MethodHandle" ∧ yX7_walks.cls ≠ "java/lang/invoke/VarHandle" ∧ (parseMethodDescriptor yX7_walks.desc).map (fun d => d.parameters.length) = some 2 := by decide +kernel
theorem hd_tw_hourGoes : yX7_hourGoes.cls = RX7 ∧ yX7_hourGoes.cls ≠ "java/lang/invoke/MethodHandle" ∧ yX7_hourGoes.cls ≠ "java/lang/invoke/VarHandle" ∧ (parseMethodDescriptor yX7_hourGoes.desc).map (fun d => d.parameters.length) = some 1 := by decide +kernel
theorem hd_tw_goMany : yX7_goMany.cls = RX7 ∧ yX7_goMany.cls ≠ "java/lang/invoke/MethodHandle" ∧ yX7_goMany.cls ≠ "java/lang/invoke/VarHandle" ∧ (parseMethodDescriptor yX7_goMany.desc).map (fun d => d.parameters.length) = some 1 := by decide +kernel
theorem hd_tw_isHorse : yX7_isHorse.cls = RX7 ∧ yX7_isHorse.cls ≠ "java/lang/invoke/MethodHandle" ∧ yX7_isHorse.cls ≠ "java/lang/invoke/VarHandle" ∧ (parseMethodDescriptor yX7_isHorse.desc).map (fun d => d.parameters.length) = some 1 := by decide +kernel
theorem hd_tw_isIn : yX7_isIn.cls ≠ "java/lang/invoke/MethodHandle" ∧ yX7_isIn.cls ≠ "java/lang/invoke/VarHandle" ∧ (parseMethodDescriptor yX7_isIn.desc).map (fun d => d.parameters.length) = some 3 := by decide +kernel
theorem hd_tw_isTrough : yX7_isTrough.cls = RX7 ∧ yX7_isTrough.cls ≠ "java/lang/invoke/MethodHandle" ∧ yX7_isTrough.cls ≠ "java/lang/invoke/VarHandle" ∧ (parseMethodDescriptor yX7_isTrough.desc).map (fun d => d.parameters.length) = some 1 := by decide +kernel
theorem hd_tw_plainTried : yX7_plainTried.cls = RX7 ∧ yX7_plainTried.cls ≠ "java/lang/invoke/MethodHandle" ∧ yX7_plainTried.cls ≠ "java/lang/invoke/VarHandle" ∧ (parseMethodDescriptor yX7_plainTried.desc).map (fun d => d.parameters.length) = some 0 := by decide +kernel
theorem hd_tw_layTried : yX7_layTried.cls = RX7 ∧ yX7_layTried.cls ≠ "java/lang/invoke/MethodHandle" ∧ yX7_layTried.cls ≠ "java/lang/invoke/VarHandle" ∧ (parseMethodDescriptor yX7_layTried.desc).map (fun d => d.parameters.length) = some 0 := by decide +kernel
theorem hd_tw_onMany : yX7_onMany.cls = RX7 ∧ yX7_onMany.cls ≠ "java/lang/invoke/MethodHandle" ∧ yX7_onMany.cls ≠ "java/lang/invoke/VarHandle" ∧ (parseMethodDescriptor yX7_onMany.desc).map (fun d => d.parameters.length) = some 1 := by decide +kernel
theorem hd_tw_ahead : yX7_ahead.cls = RX7 ∧ yX7_ahead.cls ≠ "java/lang/invoke/MethodHandle" ∧ yX7_ahead.cls ≠ "java/lang/invoke/VarHandle" ∧ (parseMethodDescriptor yX7_ahead.desc).map (fun d => d.parameters.length) = some 3 := by decide +kernel
theorem hd_tw_areTwo : yX7_areTwo.cls = RX7 ∧ yX7_areTwo.cls ≠ "java/lang/invoke/MethodHandle" ∧ yX7_areTwo.cls ≠ "java/lang/invoke/VarHandle" ∧ (parseMethodDescriptor yX7_areTwo.desc).map (fun d => d.parameters.length) = some 2 := by decide +kernel
theorem hd_tw_atFirst : yX7_atFirst.cls = RX7 ∧ yX7_atFirst.cls ≠ "java/lang/invoke/MethodHandle" ∧ yX7_atFirst.cls ≠ "java/lang/invoke/VarHandle" ∧ (parseMethodDescriptor yX7_atFirst.desc).map (fun d => d.parameters.length) = some 1 := by decide +kernel
theorem hd_tw_take : yX7_take.cls = RX7 ∧ yX7_take.cls ≠ "java/lang/invoke/MethodHandle" ∧ yX7_take.cls ≠ "java/lang/invoke/VarHandle" ∧ (parseMethodDescriptor yX7_take.desc).map (fun d => d.parameters.length) = some 2 := by decide +kernel
theorem hd_tw_back : yX7_back.cls = RX7 ∧ yX7_back.cls ≠ "java/lang/invoke/MethodHandle" ∧ yX7_back.cls ≠ "java/lang/invoke/VarHandle" ∧ (parseMethodDescriptor yX7_back.desc).map (fun d => d.parameters.length) = some 0 := by decide +kernel
theorem hd_tw_begin : yX7_begin.cls = RX7 ∧ yX7_begin.cls ≠ "java/lang/invoke/MethodHandle" ∧ yX7_begin.cls ≠ "java/lang/invoke/VarHandle" ∧ (parseMethodDescriptor yX7_begin.desc).map (fun d => d.parameters.length) = some 0 := by decide +kernel
theorem hd_tw_dropHeld : yX7_dropHeld.cls = RX7 ∧ yX7_dropHeld.cls ≠ "java/lang/invoke/MethodHandle" ∧ yX7_dropHeld.cls ≠ "java/lang/invoke/VarHandle" ∧ (parseMethodDescriptor yX7_dropHeld.desc).map (fun d => d.parameters.length) = some 0 := by decide +kernel
theorem hd_tw_grown : yX7_grown.cls = RX7 ∧ yX7_grown.cls ≠ "java/lang/invoke/MethodHandle" ∧ yX7_grown.cls ≠ "java/lang/invoke/VarHandle" ∧ (parseMethodDescriptor yX7_grown.desc).map (fun d => d.parameters.length) = some 3 := by decide +kernel
theorem hd_tw_rank : yX7_rank.cls ≠ "java/lang/invoke/MethodHandle" ∧ yX7_rank.cls ≠ "java/lang/invoke/VarHandle" ∧ (parseMethodDescriptor yX7_rank.desc).map (fun d => d.parameters.length) = some 1 := by decide +kernel
theorem hd_tw_bind : yX7_bind.cls = RX7 ∧ yX7_bind.cls ≠ "java/lang/invoke/MethodHandle" ∧ yX7_bind.cls ≠ "java/lang/invoke/VarHandle" ∧ (parseMethodDescriptor yX7_bind.desc).map (fun d => d.parameters.length) = some 1 := by decide +kernel
theorem hd_tw_chance : yX7_chance.cls = RX7 ∧ yX7_chance.cls ≠ "java/lang/invoke/MethodHandle" ∧ yX7_chance.cls ≠ "java/lang/invoke/VarHandle" ∧ (parseMethodDescriptor yX7_chance.desc).map (fun d => d.parameters.length) = some 4 := by decide +kernel
theorem hd_tw_copies : yX7_copies.cls ≠ "java/lang/invoke/MethodHandle" ∧ yX7_copies.cls ≠ "java/lang/invoke/VarHandle" ∧ (parseMethodDescriptor yX7_copies.desc).map (fun d => d.parameters.length) = some 2 := by decide +kernel
theorem hd_tw_knownBy : yX7_knownBy.cls = RX7 ∧ yX7_knownBy.cls ≠ "java/lang/invoke/MethodHandle" ∧ yX7_knownBy.cls ≠ "java/lang/invoke/VarHandle" ∧ (parseMethodDescriptor yX7_knownBy.desc).map (fun d => d.parameters.length) = some 0 := by decide +kernel
theorem hd_tw_count : yX7_count.cls = RX7 ∧ yX7_count.cls ≠ "java/lang/invoke/MethodHandle" ∧ yX7_count.cls ≠ "java/lang/invoke/VarHandle" ∧ (parseMethodDescriptor yX7_count.desc).map (fun d => d.parameters.length) = some 1 := by decide +kernel
theorem hd_tw_isOf : yX7_isOf.cls ≠ "java/lang/invoke/MethodHandle" ∧ yX7_isOf.cls ≠ "java/lang/invoke/VarHandle" ∧ (parseMethodDescriptor yX7_isOf.desc).map (fun d => d.parameters.length) = some 2 := by decide +kernel
theorem hd_tw_isCovered : yX7_isCovered.cls = RX7 ∧ yX7_isCovered.cls ≠ "java/lang/invoke/MethodHandle" ∧ yX7_isCovered.cls ≠ "java/lang/invoke/VarHandle" ∧ (parseMethodDescriptor yX7_isCovered.desc).map (fun d => d.parameters.length) = some 2 := by decide +kernel
theorem hd_tw_manyOf : yX7_manyOf.cls ≠ "java/lang/invoke/MethodHandle" ∧ yX7_manyOf.cls ≠ "java/lang/invoke/VarHandle" ∧ (parseMethodDescriptor yX7_manyOf.desc).map (fun d => d.parameters.length) = some 1 := by decide +kernel
theorem hd_tw_cover : yX7_cover.cls = RX7 ∧ yX7_cover.cls ≠ "java/lang/invoke/MethodHandle" ∧ yX7_cover.cls ≠ "java/lang/invoke/VarHandle" ∧ (parseMethodDescriptor yX7_cover.desc).map (fun d => d.parameters.length) = some 1 := by decide +kernel
theorem hd_tw_driest : yX7_driest.cls = RX7 ∧ yX7_driest.cls ≠ "java/lang/invoke/MethodHandle" ∧ yX7_driest.cls ≠ "java/lang/invoke/VarHandle" ∧ (parseMethodDescriptor yX7_driest.desc).map (fun d => d.parameters.length) = some 0 := by decide +kernel
theorem hd_tw_enemies : yX7_enemies.cls = RX7 ∧ yX7_enemies.cls ≠ "java/lang/invoke/MethodHandle" ∧ yX7_enemies.cls ≠ "java/lang/invoke/VarHandle" ∧ (parseMethodDescriptor yX7_enemies.desc).map (fun d => d.parameters.length) = some 1 := by decide +kernel
theorem hd_tw_fails : yX7_fails.cls = RX7 ∧ yX7_fails.cls ≠ "java/lang/invoke/MethodHandle" ∧ yX7_fails.cls ≠ "java/lang/invoke/VarHandle" ∧ (parseMethodDescriptor yX7_fails.desc).map (fun d => d.parameters.length) = some 1 := by decide +kernel
theorem hd_tw_falls : yX7_falls.cls = RX7 ∧ yX7_falls.cls ≠ "java/lang/invoke/MethodHandle" ∧ yX7_falls.cls ≠ "java/lang/invoke/VarHandle" ∧ (parseMethodDescriptor yX7_falls.desc).map (fun d => d.parameters.length) = some 1 := by decide +kernel
theorem hd_tw_fault : yX7_fault.cls = RX7 ∧ yX7_fault.cls ≠ "java/lang/invoke/MethodHandle" ∧ yX7_fault.cls ≠ "java/lang/invoke/VarHandle" ∧ (parseMethodDescriptor yX7_fault.desc).map (fun d => d.parameters.length) = some 1 := by decide +kernel
theorem hd_tw_feed : yX7_feed.cls = RX7 ∧ yX7_feed.cls ≠ "java/lang/invoke/MethodHandle" ∧ yX7_feed.cls ≠ "java/lang/invoke/VarHandle" ∧ (parseMethodDescriptor yX7_feed.desc).map (fun d => d.parameters.length) = some 5 := by decide +kernel
theorem hd_tw_put : yX7_put.cls = RX7 ∧ yX7_put.cls ≠ "java/lang/invoke/MethodHandle" ∧ yX7_put.cls ≠ "java/lang/invoke/VarHandle" ∧ (parseMethodDescriptor yX7_put.desc).map (fun d => d.parameters.length) = some 2 := by decide +kernel
theorem hd_tw_remember : yX7_remember.cls = RX7 ∧ yX7_remember.cls ≠ "java/lang/invoke/MethodHandle" ∧ yX7_remember.cls ≠ "java/lang/invoke/VarHandle" ∧ (parseMethodDescriptor yX7_remember.desc).map (fun d => d.parameters.length) = some 0 := by decide +kernel
theorem hd_tw_fill : yX7_fill.cls = RX7 ∧ yX7_fill.cls ≠ "java/lang/invoke/MethodHandle" ∧ yX7_fill.cls ≠ "java/lang/invoke/VarHandle" ∧ (parseMethodDescriptor yX7_fill.desc).map (fun d => d.parameters.length) = some 2 := by decide +kernel
theorem hd_tw_isSo : yX7_isSo.cls = RX7 ∧ yX7_isSo.cls ≠ "java/lang/invoke/MethodHandle" ∧ yX7_isSo.cls ≠ "java/lang/invoke/VarHandle" ∧ (parseMethodDescriptor yX7_isSo.desc).map (fun d => d.parameters.length) = some 1 := by decide +kernel
theorem hd_tw_fits : yX7_fits.cls = RX7 ∧ yX7_fits.cls ≠ "java/lang/invoke/MethodHandle" ∧ yX7_fits.cls ≠ "java/lang/invoke/VarHandle" ∧ (parseMethodDescriptor yX7_fits.desc).map (fun d => d.parameters.length) = some 2 := by decide +kernel
theorem hd_tw_legOf : yX7_legOf.cls = RX7 ∧ yX7_legOf.cls ≠ "java/lang/invoke/MethodHandle" ∧ yX7_legOf.cls ≠ "java/lang/invoke/VarHandle" ∧ (parseMethodDescriptor yX7_legOf.desc).map (fun d => d.parameters.length) = some 3 := by decide +kernel
theorem hd_tw_gather : yX7_gather.cls = RX7 ∧ yX7_gather.cls ≠ "java/lang/invoke/MethodHandle" ∧ yX7_gather.cls ≠ "java/lang/invoke/VarHandle" ∧ (parseMethodDescriptor yX7_gather.desc).map (fun d => d.parameters.length) = some 1 := by decide +kernel
theorem hd_tw_go : yX7_go.cls = RX7 ∧ yX7_go.cls ≠ "java/lang/invoke/MethodHandle" ∧ yX7_go.cls ≠ "java/lang/invoke/VarHandle" ∧ (parseMethodDescriptor yX7_go.desc).map (fun d => d.parameters.length) = some 1 := by decide +kernel
theorem hd_tw_hasBy : yX7_hasBy.cls = RX7 ∧ yX7_hasBy.cls ≠ "java/lang/invoke/MethodHandle" ∧ yX7_hasBy.cls ≠ "java/lang/invoke/VarHandle" ∧ (parseMethodDescriptor yX7_hasBy.desc).map (fun d => d.parameters.length) = some 4 := by decide +kernel
theorem hd_tw_horse : yX7_horse.cls = RX7 ∧ yX7_horse.cls ≠ "java/lang/invoke/MethodHandle" ∧ yX7_horse.cls ≠ "java/lang/invoke/VarHandle" ∧ (parseMethodDescriptor yX7_horse.desc).map (fun d => d.parameters.length) = some 2 := by decide +kernel
theorem hd_tw_isDigit : yX7_isDigit.cls = RX7 ∧ yX7_isDigit.cls ≠ "java/lang/invoke/MethodHandle" ∧ yX7_isDigit.cls ≠ "java/lang/invoke/VarHandle" ∧ (parseMethodDescriptor yX7_isDigit.desc).map (fun d => d.parameters.length) = some 1 := by decide +kernel
theorem hd_tw_isSmall : yX7_isSmall.cls = RX7 ∧ yX7_isSmall.cls ≠ "java/lang/invoke/MethodHandle" ∧ yX7_isSmall.cls ≠ "java/lang/invoke/VarHandle" ∧ (parseMethodDescriptor yX7_isSmall.desc).map (fun d => d.parameters.length) = some 1 := by decide +kernel
theorem hd_tw_packed : yX7_packed.cls = RX7 ∧ yX7_packed.cls ≠ "java/lang/invoke/MethodHandle" ∧ yX7_packed.cls ≠ "java/lang/invoke/VarHandle" ∧ (parseMethodDescriptor yX7_packed.desc).map (fun d => d.parameters.length) = some 2 := by decide +kernel
theorem hd_tw_signToken : yX7_signToken.cls = RX7 ∧ yX7_signToken.cls ≠ "java/lang/invoke/MethodHandle" ∧ yX7_signToken.cls ≠ "java/lang/invoke/VarHandle" ∧ (parseMethodDescriptor yX7_signToken.desc).map (fun d => d.parameters.length) = some 0 := by decide +kernel
theorem hd_tw_wordAt : yX7_wordAt.cls = RX7 ∧ yX7_wordAt.cls ≠ "java/lang/invoke/MethodHandle" ∧ yX7_wordAt.cls ≠ "java/lang/invoke/VarHandle" ∧ (parseMethodDescriptor yX7_wordAt.desc).map (fun d => d.parameters.length) = some 2 := by decide +kernel
theorem hd_tw_token : yX7_token.cls = RX7 ∧ yX7_token.cls ≠ "java/lang/invoke/MethodHandle" ∧ yX7_token.cls ≠ "java/lang/invoke/VarHandle" ∧ (parseMethodDescriptor yX7_token.desc).map (fun d => d.parameters.length) = some 0 := by decide +kernel
theorem hd_tw_wrong : yX7_wrong.cls = RX7 ∧ yX7_wrong.cls ≠ "java/lang/invoke/MethodHandle" ∧ yX7_wrong.cls ≠ "java/lang/invoke/VarHandle" ∧ (parseMethodDescriptor yX7_wrong.desc).map (fun d => d.parameters.length) = some 1 := by decide +kernel
theorem hd_tw_newName : yX7_newName.cls = RX7 ∧ yX7_newName.cls ≠ "java/lang/invoke/MethodHandle" ∧ yX7_newName.cls ≠ "java/lang/invoke/VarHandle" ∧ (parseMethodDescriptor yX7_newName.desc).map (fun d => d.parameters.length) = some 3 := by decide +kernel
theorem hd_tw_number : yX7_number.cls = RX7 ∧ yX7_number.cls ≠ "java/lang/invoke/MethodHandle" ∧ yX7_number.cls ≠ "java/lang/invoke/VarHandle" ∧ (parseMethodDescriptor yX7_number.desc).map (fun d => d.parameters.length) = some 2 := by decide +kernel
theorem hd_tw_horseLine : yX7_horseLine.cls = RX7 ∧ yX7_horseLine.cls ≠ "java/lang/invoke/MethodHandle" ∧ yX7_horseLine.cls ≠ "java/lang/invoke/VarHandle" ∧ (parseMethodDescriptor yX7_horseLine.desc).map (fun d => d.parameters.length) = some 0 := by decide +kernel
theorem hd_tw_isCounted : yX7_isCounted.cls = RX7 ∧ yX7_isCounted.cls ≠ "java/lang/invoke/MethodHandle" ∧ yX7_isCounted.cls ≠ "java/lang/invoke/VarHandle" ∧ (parseMethodDescriptor yX7_isCounted.desc).map (fun d => d.parameters.length) = some 0 := by decide +kernel
theorem hd_tw_isKey : yX7_isKey.cls = RX7 ∧ yX7_isKey.cls ≠ "java/lang/invoke/MethodHandle" ∧ yX7_isKey.cls ≠ "java/lang/invoke/VarHandle" ∧ (parseMethodDescriptor yX7_isKey.desc).map (fun d => d.parameters.length) = some 1 := by decide +kernel
theorem hd_tw_isSign : yX7_isSign.cls = RX7 ∧ yX7_isSign.cls ≠ "java/lang/invoke/MethodHandle" ∧ yX7_isSign.cls ≠ "java/lang/invoke/VarHandle" ∧ (parseMethodDescriptor yX7_isSign.desc).map (fun d => d.parameters.length) = some 1 := by decide +kernel
theorem hd_tw_keep : yX7_keep.cls = RX7 ∧ yX7_keep.cls ≠ "java/lang/invoke/MethodHandle" ∧ yX7_keep.cls ≠ "java/lang/invoke/VarHandle" ∧ (parseMethodDescriptor yX7_keep.desc).map (fun d => d.parameters.length) = some 0 := by decide +kernel
theorem hd_tw_keepText : yX7_keepText.cls = RX7 ∧ yX7_keepText.cls ≠ "java/lang/invoke/MethodHandle" ∧ yX7_keepText.cls ≠ "java/lang/invoke/VarHandle" ∧ (parseMethodDescriptor yX7_keepText.desc).map (fun d => d.parameters.length) = some 0 := by decide +kernel
theorem hd_tw_known : yX7_known.cls = RX7 ∧ yX7_known.cls ≠ "java/lang/invoke/MethodHandle" ∧ yX7_known.cls ≠ "java/lang/invoke/VarHandle" ∧ (parseMethodDescriptor yX7_known.desc).map (fun d => d.parameters.length) = some 1 := by decide +kernel
theorem hd_tw_thereIn : yX7_thereIn.cls = RX7 ∧ yX7_thereIn.cls ≠ "java/lang/invoke/MethodHandle" ∧ yX7_thereIn.cls ≠ "java/lang/invoke/VarHandle" ∧ (parseMethodDescriptor yX7_thereIn.desc).map (fun d => d.parameters.length) = some 3 := by decide +kernel
theorem hd_tw_lapLine : yX7_lapLine.cls = RX7 ∧ yX7_lapLine.cls ≠ "java/lang/invoke/MethodHandle" ∧ yX7_lapLine.cls ≠ "java/lang/invoke/VarHandle" ∧ (parseMethodDescriptor yX7_lapLine.desc).map (fun d => d.parameters.length) = some 0 := by decide +kernel
theorem hd_tw_law : yX7_law.cls = RX7 ∧ yX7_law.cls ≠ "java/lang/invoke/MethodHandle" ∧ yX7_law.cls ≠ "java/lang/invoke/VarHandle" ∧ (parseMethodDescriptor yX7_law.desc).map (fun d => d.parameters.length) = some 2 := by decide +kernel
theorem hd_tw_lead : yX7_lead.cls = RX7 ∧ yX7_lead.cls ≠ "java/lang/invoke/MethodHandle" ∧ yX7_lead.cls ≠ "java/lang/invoke/VarHandle" ∧ (parseMethodDescriptor yX7_lead.desc).map (fun d => d.parameters.length) = some 2 := by decide +kernel
theorem hd_tw_nameMet : yX7_nameMet.cls = RX7 ∧ yX7_nameMet.cls ≠ "java/lang/invoke/MethodHandle" ∧ yX7_nameMet.cls ≠ "java/lang/invoke/VarHandle" ∧ (parseMethodDescriptor yX7_nameMet.desc).map (fun d => d.parameters.length) = some 0 := by decide +kernel
theorem hd_tw_waitsFor : yX7_waitsFor.cls = RX7 ∧ yX7_waitsFor.cls ≠ "java/lang/invoke/MethodHandle" ∧ yX7_waitsFor.cls ≠ "java/lang/invoke/VarHandle" ∧ (parseMethodDescriptor yX7_waitsFor.desc).map (fun d => d.parameters.length) = some 1 := by decide +kernel
theorem hd_tw_leafRead : yX7_leafRead.cls = RX7 ∧ yX7_leafRead.cls ≠ "java/lang/invoke/MethodHandle" ∧ yX7_leafRead.cls ≠ "java/lang/invoke/VarHandle" ∧ (parseMethodDescriptor yX7_leafRead.desc).map (fun d => d.parameters.length) = some 0 := by decide +kernel
theorem hd_tw_onceLine : yX7_onceLine.cls = RX7 ∧ yX7_onceLine.cls ≠ "java/lang/invoke/MethodHandle" ∧ yX7_onceLine.cls ≠ "java/lang/invoke/VarHandle" ∧ (parseMethodDescriptor yX7_onceLine.desc).map (fun d => d.parameters.length) = some 2 := by decide +kernel
theorem hd_tw_roadLine : yX7_roadLine.cls = RX7 ∧ yX7_roadLine.cls ≠ "java/lang/invoke/MethodHandle" ∧ yX7_roadLine.cls ≠ "java/lang/invoke/VarHandle" ∧ (parseMethodDescriptor yX7_roadLine.desc).map (fun d => d.parameters.length) = some 0 := by decide +kernel
theorem hd_tw_signs : yX7_signs.cls = RX7 ∧ yX7_signs.cls ≠ "java/lang/invoke/MethodHandle" ∧ yX7_signs.cls ≠ "java/lang/invoke/VarHandle" ∧ (parseMethodDescriptor yX7_signs.desc).map (fun d => d.parameters.length) = some 0 := by decide +kernel
theorem hd_tw_sumRead : yX7_sumRead.cls = RX7 ∧ yX7_sumRead.cls ≠ "java/lang/invoke/MethodHandle" ∧ yX7_sumRead.cls ≠ "java/lang/invoke/VarHandle" ∧ (parseMethodDescriptor yX7_sumRead.desc).map (fun d => d.parameters.length) = some 0 := by decide +kernel
theorem hd_tw_troughLine : yX7_troughLine.cls = RX7 ∧ yX7_troughLine.cls ≠ "java/lang/invoke/MethodHandle" ∧ yX7_troughLine.cls ≠ "java/lang/invoke/VarHandle" ∧ (parseMethodDescriptor yX7_troughLine.desc).map (fun d => d.parameters.length) = some 0 := by decide +kernel
theorem hd_tw_lineRead : yX7_lineRead.cls = RX7 ∧ yX7_lineRead.cls ≠ "java/lang/invoke/MethodHandle" ∧ yX7_lineRead.cls ≠ "java/lang/invoke/VarHandle" ∧ (parseMethodDescriptor yX7_lineRead.desc).map (fun d => d.parameters.length) = some 0 := by decide +kernel
theorem hd_tw_meet : yX7_meet.cls = RX7 ∧ yX7_meet.cls ≠ "java/lang/invoke/MethodHandle" ∧ yX7_meet.cls ≠ "java/lang/invoke/VarHandle" ∧ (parseMethodDescriptor yX7_meet.desc).map (fun d => d.parameters.length) = some 2 := by decide +kernel
theorem hd_tw_named : yX7_named.cls = RX7 ∧ yX7_named.cls ≠ "java/lang/invoke/MethodHandle" ∧ yX7_named.cls ≠ "java/lang/invoke/VarHandle" ∧ (parseMethodDescriptor yX7_named.desc).map (fun d => d.parameters.length) = some 2 := by decide +kernel
theorem hd_tw_nearest : yX7_nearest.cls = RX7 ∧ yX7_nearest.cls ≠ "java/lang/invoke/MethodHandle" ∧ yX7_nearest.cls ≠ "java/lang/invoke/VarHandle" ∧ (parseMethodDescriptor yX7_nearest.desc).map (fun d => d.parameters.length) = some 1 := by decide +kernel
theorem hd_tw_nextFight : yX7_nextFight.cls = RX7 ∧ yX7_nextFight.cls ≠ "java/lang/invoke/MethodHandle" ∧ yX7_nextFight.cls ≠ "java/lang/invoke/VarHandle" ∧ (parseMethodDescriptor yX7_nextFight.desc).map (fun d => d.parameters.length) = some 1 := by decide +kernel
theorem hd_tw_noted : yX7_noted.cls = RX7 ∧ yX7_noted.cls ≠ "java/lang/invoke/MethodHandle" ∧ yX7_noted.cls ≠ "java/lang/invoke/VarHandle" ∧ (parseMethodDescriptor yX7_noted.desc).map (fun d => d.parameters.length) = some 4 := by decide +kernel
theorem hd_tw_peace : yX7_peace.cls = RX7 ∧ yX7_peace.cls ≠ "java/lang/invoke/MethodHandle" ∧ yX7_peace.cls ≠ "java/lang/invoke/VarHandle" ∧ (parseMethodDescriptor yX7_peace.desc).map (fun d => d.parameters.length) = some 2 := by decide +kernel
theorem hd_tw_plain : yX7_plain.cls = RX7 ∧ yX7_plain.cls ≠ "java/lang/invoke/MethodHandle" ∧ yX7_plain.cls ≠ "java/lang/invoke/VarHandle" ∧ (parseMethodDescriptor yX7_plain.desc).map (fun d => d.parameters.length) = some 0 := by decide +kernel
theorem hd_tw_pump : yX7_pump.cls = RX7 ∧ yX7_pump.cls ≠ "java/lang/invoke/MethodHandle" ∧ yX7_pump.cls ≠ "java/lang/invoke/VarHandle" ∧ (parseMethodDescriptor yX7_pump.desc).map (fun d => d.parameters.length) = some 1 := by decide +kernel
theorem hd_tw_reach : yX7_reach.cls = RX7 ∧ yX7_reach.cls ≠ "java/lang/invoke/MethodHandle" ∧ yX7_reach.cls ≠ "java/lang/invoke/VarHandle" ∧ (parseMethodDescriptor yX7_reach.desc).map (fun d => d.parameters.length) = some 1 := by decide +kernel
theorem hd_tw_restAt : yX7_restAt.cls = RX7 ∧ yX7_restAt.cls ≠ "java/lang/invoke/MethodHandle" ∧ yX7_restAt.cls ≠ "java/lang/invoke/VarHandle" ∧ (parseMethodDescriptor yX7_restAt.desc).map (fun d => d.parameters.length) = some 3 := by decide +kernel
theorem hd_tw_rest : yX7_rest.cls = RX7 ∧ yX7_rest.cls ≠ "java/lang/invoke/MethodHandle" ∧ yX7_rest.cls ≠ "java/lang/invoke/VarHandle" ∧ (parseMethodDescriptor yX7_rest.desc).map (fun d => d.parameters.length) = some 3 := by decide +kernel
theorem hd_tw_rests : yX7_rests.cls = RX7 ∧ yX7_rests.cls ≠ "java/lang/invoke/MethodHandle" ∧ yX7_rests.cls ≠ "java/lang/invoke/VarHandle" ∧ (parseMethodDescriptor yX7_rests.desc).map (fun d => d.parameters.length) = some 2 := by decide +kernel
theorem hd_tw_round : yX7_round.cls = RX7 ∧ yX7_round.cls ≠ "java/lang/invoke/MethodHandle" ∧ yX7_round.cls ≠ "java/lang/invoke/VarHandle" ∧ (parseMethodDescriptor yX7_round.desc).map (fun d => d.parameters.length) = some 1 := by decide +kernel
theorem hd_tw_runsDry : yX7_runsDry.cls = RX7 ∧ yX7_runsDry.cls ≠ "java/lang/invoke/MethodHandle" ∧ yX7_runsDry.cls ≠ "java/lang/invoke/VarHandle" ∧ (parseMethodDescriptor yX7_runsDry.desc).map (fun d => d.parameters.length) = some 1 := by decide +kernel
theorem hd_tw_see : yX7_see.cls = RX7 ∧ yX7_see.cls ≠ "java/lang/invoke/MethodHandle" ∧ yX7_see.cls ≠ "java/lang/invoke/VarHandle" ∧ (parseMethodDescriptor yX7_see.desc).map (fun d => d.parameters.length) = some 4 := by decide +kernel
theorem hd_tw_send : yX7_send.cls = RX7 ∧ yX7_send.cls ≠ "java/lang/invoke/MethodHandle" ∧ yX7_send.cls ≠ "java/lang/invoke/VarHandle" ∧ (parseMethodDescriptor yX7_send.desc).map (fun d => d.parameters.length) = some 2 := by decide +kernel
theorem hd_tw_sendIn : yX7_sendIn.cls = RX7 ∧ yX7_sendIn.cls ≠ "java/lang/invoke/MethodHandle" ∧ yX7_sendIn.cls ≠ "java/lang/invoke/VarHandle" ∧ (parseMethodDescriptor yX7_sendIn.desc).map (fun d => d.parameters.length) = some 3 := by decide +kernel
theorem hd_tw_sides : yX7_sides.cls = RX7 ∧ yX7_sides.cls ≠ "java/lang/invoke/MethodHandle" ∧ yX7_sides.cls ≠ "java/lang/invoke/VarHandle" ∧ (parseMethodDescriptor yX7_sides.desc).map (fun d => d.parameters.length) = some 0 := by decide +kernel
theorem hd_tw_staysDry : yX7_staysDry.cls = RX7 ∧ yX7_staysDry.cls ≠ "java/lang/invoke/MethodHandle" ∧ yX7_staysDry.cls ≠ "java/lang/invoke/VarHandle" ∧ (parseMethodDescriptor yX7_staysDry.desc).map (fun d => d.parameters.length) = some 2 := by decide +kernel
theorem hd_tw_stops : yX7_stops.cls = RX7 ∧ yX7_stops.cls ≠ "java/lang/invoke/MethodHandle" ∧ yX7_stops.cls ≠ "java/lang/invoke/VarHandle" ∧ (parseMethodDescriptor yX7_stops.desc).map (fun d => d.parameters.length) = some 2 := by decide +kernel
theorem hd_tw_strike : yX7_strike.cls = RX7 ∧ yX7_strike.cls ≠ "java/lang/invoke/MethodHandle" ∧ yX7_strike.cls ≠ "java/lang/invoke/VarHandle" ∧ (parseMethodDescriptor yX7_strike.desc).map (fun d => d.parameters.length) = some 1 := by decide +kernel
theorem hd_tw_text : yX7_text.cls = RX7 ∧ yX7_text.cls ≠ "java/lang/invoke/MethodHandle" ∧ yX7_text.cls ≠ "java/lang/invoke/VarHandle" ∧ (parseMethodDescriptor yX7_text.desc).map (fun d => d.parameters.length) = some 1 := by decide +kernel
theorem hd_tw_thirstiest : yX7_thirstiest.cls = RX7 ∧ yX7_thirstiest.cls ≠ "java/lang/invoke/MethodHandle" ∧ yX7_thirstiest.cls ≠ "java/lang/invoke/VarHandle" ∧ (parseMethodDescriptor yX7_thirstiest.desc).map (fun d => d.parameters.length) = some 0 := by decide +kernel
theorem hd_tw_thirsts : yX7_thirsts.cls = RX7 ∧ yX7_thirsts.cls ≠ "java/lang/invoke/MethodHandle" ∧ yX7_thirsts.cls ≠ "java/lang/invoke/VarHandle" ∧ (parseMethodDescriptor yX7_thirsts.desc).map (fun d => d.parameters.length) = some 1 := by decide +kernel
theorem hd_tw_thrown : yX7_thrown.cls = RX7 ∧ yX7_thrown.cls ≠ "java/lang/invoke/MethodHandle" ∧ yX7_thrown.cls ≠ "java/lang/invoke/VarHandle" ∧ (parseMethodDescriptor yX7_thrown.desc).map (fun d => d.parameters.length) = some 0 := by decide +kernel
theorem hd_tw_tried : yX7_tried.cls = RX7 ∧ yX7_tried.cls ≠ "java/lang/invoke/MethodHandle" ∧ yX7_tried.cls ≠ "java/lang/invoke/VarHandle" ∧ (parseMethodDescriptor yX7_tried.desc).map (fun d => d.parameters.length) = some 3 := by decide +kernel
theorem hd_tw_trough : yX7_trough.cls = RX7 ∧ yX7_trough.cls ≠ "java/lang/invoke/MethodHandle" ∧ yX7_trough.cls ≠ "java/lang/invoke/VarHandle" ∧ (parseMethodDescriptor yX7_trough.desc).map (fun d => d.parameters.length) = some 2 := by decide +kernel
theorem hd_tw_undo : yX7_undo.cls = RX7 ∧ yX7_undo.cls ≠ "java/lang/invoke/MethodHandle" ∧ yX7_undo.cls ≠ "java/lang/invoke/VarHandle" ∧ (parseMethodDescriptor yX7_undo.desc).map (fun d => d.parameters.length) = some 0 := by decide +kernel
