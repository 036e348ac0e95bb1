/-! small rows for the walks -/
theorem na_add {x y : Int32} {a b : Nat} (hx : x = nI a) (hy : y = nI b) : x + y = nI (a + b) := by rw [hx, hy, nI_add]
theorem na_mul {x y : Int32} {a b : Nat} (hx : x = nI a) (hy : y = nI b) : x * y = nI (a * b) := by rw [hx, hy, pk_mul]
theorem nlt {x y : Int32} {a b : Nat} (hx : x = nI a) (hy : y = nI b) (ha : a < 2 ^ 31) (hb : b < 2 ^ 31) : x < y ↔ a < b := by rw [hx, hy, nI_ltI ha hb]
theorem nle {x y : Int32} {a b : Nat} (hx : x = nI a) (hy : y = nI b) (ha : a < 2 ^ 31) (hb : b < 2 ^ 31) : x ≤ y ↔ a ≤ b := by rw [hx, hy, nI_leI ha hb]
theorem neq {x y : Int32} {a b : Nat} (hx : x = nI a) (hy : y = nI b) (ha : a < 2 ^ 31) (hb : b < 2 ^ 31) : x = y ↔ a = b := by rw [hx, hy, nI_eq ha hb]
theorem ms_gone {y : mst} {v : Int32} (k : Nat) : md ((ys y 0 (u2 (y.1 0) 1 1 v)).1 k) = md (y.1 k) := by
  by_cases h : k = 0
  · subst h; rw [ys_at, mu_gone]
  · rw [ys_ne h]
section ROWS3
variable {p : Program} {l : Launch} {e : Env} {R : Room} {s : State} {m : MethodId} {args : Array Value} {below : List Frame} {meth : Method} {c : Code} {H H0 : Heap} {locs : List Loc} {cells slots : Nat} {Q : State → Prop}
variable {cc : ByteArray} {pc : Nat} {ls : Array Slot} {rest : List Value} {A : Nat → Prop} {D : va_G} {cf cf' : cmap} {a : Nat}
theorem n_ialdv (hexec : p.tables.exec = Jvm.exec) (hb : c.code = cc) (hK : KK D s) (hI : hw D cf A H) {i : Nat} {n : Nat} {f : Nat → Int32} (he : cf i = some (a, .inl (D.1 100, n, .inl f))) {j : Int32} {k : Nat} {v : Int32} (hj : j = nI k) (hk : k < n) (hn : n ≤ 1000) (hv : f k = v) (hdg : decode cc pc = .ok (.iaload, 1))
    (kk : W p l e R s m args below meth c H locs cells slots Q (F0 m (pc + 1) ls (.int v :: rest))) : W p l e R s m args below meth c H locs cells slots Q (F0 m pc ls (.int j :: .ref a :: rest)) :=
  n_iald hexec hb hK hI he hj hk hn hdg (by rw [hv]; exact kk)
end ROWS3
/-! ===== the words of the plain law ===== -/
/-- is it so many, from 0 on, below b -/
def isN (v : Int32) (b : Nat) : Prop := ∃ j : Nat, j < b ∧ v = nI j
def hsI (set k : Int32) : Int32 := if (set >>> (k &&& 31)) &&& 1 = 1 then 1 else 0
def inI (v lo hi : Int32) : Int32 := if v < lo then 0 else if hi < v then 0 else 1
def bcI (i : Int32) : Int32 :=
  let a := i - ((i.toUInt32 >>> ((1 : Int32).toUInt32 &&& Int32.toUInt32 31)).toInt32 &&& 1431655765)
  let b := (a &&& 858993459) + ((a.toUInt32 >>> ((2 : Int32).toUInt32 &&& Int32.toUInt32 31)).toInt32 &&& 858993459)
  let c := (b + (b.toUInt32 >>> ((4 : Int32).toUInt32 &&& Int32.toUInt32 31)).toInt32) &&& 252645135
  let d := c + (c.toUInt32 >>> ((8 : Int32).toUInt32 &&& Int32.toUInt32 31)).toInt32
  let e := d + (d.toUInt32 >>> ((16 : Int32).toUInt32 &&& Int32.toUInt32 31)).toInt32
  e &&& 63
def rmI (v : Int32) : Int32 := v / 1000
def tpI (v : Int32) : Int32 := (v - v / 1000 * 1000) / 10
def ldI (v : Int32) : Int32 := v - v / 10 * 10
def syI (r t l : Int32) : Int32 := 1000 * r + 10 * t + l
def isSayI (v : Int32) : Int32 := if v < 0 then 0 else if inI (rmI v) 0 5 = 0 then 0 else if inI (tpI v) 0 15 = 0 then 0 else 1
def isTldI (what v : Int32) : Int32 :=
  if what = 0 then inI v 0 6 else if what = 1 then inI v 0 5 else if what = 2 then inI v 0 9 else if what = 3 then inI v 0 65535 else if what = 4 then inI v 0 9999
  else if what = 5 then inI v 0 65535 else if what = 6 then inI v 0 9999 else 0
theorem inI_01 (v lo hi : Int32) : inI v lo hi = 0 ∨ inI v lo hi = 1 := by
  unfold inI
  by_cases h1 : v < lo
  · simp [h1]
  · by_cases h2 : hi < v <;> simp [h1, h2]
theorem hsI_01 (v k : Int32) : hsI v k = 0 ∨ hsI v k = 1 := by
  unfold hsI
  by_cases h1 : (v >>> (k &&& 31)) &&& 1 = 1 <;> simp [h1]
/-! nest mates, by name -/
theorem nm_0 {D : va_G} {s : State} (h : KK D s) : va_Nw (.methodLinkNest "LeftGloves" 71 yX2_init "LeftGloves") s := h.2.2.1.1 ("LeftGloves", 71, yX2_init) (List.mem_of_getElem? (i := 0) rfl)
theorem nm_1 {D : va_G} {s : State} (h : KK D s) : va_Nw (.methodLinkNest "LeftGloves$World" 27 yX0_saying "LeftGloves") s := h.2.2.1.1 ("LeftGloves$World", 27, yX0_saying) (List.mem_of_getElem? (i := 1) rfl)
theorem nm_2 {D : va_G} {s : State} (h : KK D s) : va_Nw (.methodLinkNest "LeftGloves" 105 yX5_init "LeftGloves") s := h.2.2.1.1 ("LeftGloves", 105, yX5_init) (List.mem_of_getElem? (i := 2) rfl)
theorem nm_3 {D : va_G} {s : State} (h : KK D s) : va_Nw (.methodLinkNest "LeftGloves$World" 51 yX0_has "LeftGloves") s := h.2.2.1.1 ("LeftGloves$World", 51, yX0_has) (List.mem_of_getElem? (i := 3) rfl)
theorem nm_4 {D : va_G} {s : State} (h : KK D s) : va_Nw (.methodLinkNest "LeftGloves$World" 59 yX0_roomOf "LeftGloves") s := h.2.2.1.1 ("LeftGloves$World", 59, yX0_roomOf) (List.mem_of_getElem? (i := 4) rfl)
theorem nm_5 {D : va_G} {s : State} (h : KK D s) : va_Nw (.methodLinkNest "LeftGloves$World" 63 yX0_topicOf "LeftGloves") s := h.2.2.1.1 ("LeftGloves$World", 63, yX0_topicOf) (List.mem_of_getElem? (i := 5) rfl)
theorem nm_6 {D : va_G} {s : State} (h : KK D s) : va_Nw (.methodLinkNest "LeftGloves$World" 66 yX0_ones "LeftGloves") s := h.2.2.1.1 ("LeftGloves$World", 66, yX0_ones) (List.mem_of_getElem? (i := 6) rfl)
theorem nm_7 {D : va_G} {s : State} (h : KK D s) : va_Nw (.methodLinkNest "LeftGloves$Reader" 33 yX0_in "LeftGloves") s := h.2.2.1.1 ("LeftGloves$Reader", 33, yX0_in) (List.mem_of_getElem? (i := 7) rfl)
theorem nm_8 {D : va_G} {s : State} (h : KK D s) : va_Nw (.methodLinkNest "LeftGloves$Reader" 116 yX0_saying "LeftGloves") s := h.2.2.1.1 ("LeftGloves$Reader", 116, yX0_saying) (List.mem_of_getElem? (i := 8) rfl)
theorem nf_0 {D : va_G} {s : State} (h : KK D s) {args : Array Value} : (Cond.fieldLinkNest "LeftGloves" 119 "LeftGloves$Refusal" "finding" "I" "LeftGloves").before args s = true := va_Nw.use rfl (h.2.1 ("LeftGloves", 119, "LeftGloves$Refusal", "finding", "I") (List.mem_of_getElem? (i := 0) rfl))
theorem nf_1 {D : va_G} {s : State} (h : KK D s) {args : Array Value} : (Cond.fieldLinkNest "LeftGloves$Reader" 112 "LeftGloves$World" "list" "[I" "LeftGloves").before args s = true := va_Nw.use rfl (h.2.1 ("LeftGloves$Reader", 112, "LeftGloves$World", "list", "[I") (List.mem_of_getElem? (i := 1) rfl))
theorem nf_2 {D : va_G} {s : State} (h : KK D s) {args : Array Value} : (Cond.fieldLinkNest "LeftGloves" 196 "LeftGloves$World" "list" "[I" "LeftGloves").before args s = true := va_Nw.use rfl (h.2.1 ("LeftGloves", 196, "LeftGloves$World", "list", "[I") (List.mem_of_getElem? (i := 2) rfl))
theorem nf_3 {D : va_G} {s : State} (h : KK D s) {args : Array Value} : (Cond.fieldLinkNest "LeftGloves$Reader" 97 "LeftGloves$World" "gloves" "I" "LeftGloves").before args s = true := va_Nw.use rfl (h.2.1 ("LeftGloves$Reader", 97, "LeftGloves$World", "gloves", "I") (List.mem_of_getElem? (i := 3) rfl))
theorem nf_4 {D : va_G} {s : State} (h : KK D s) {args : Array Value} : (Cond.fieldLinkNest "LeftGloves" 127 "LeftGloves$World" "gloves" "I" "LeftGloves").before args s = true := va_Nw.use rfl (h.2.1 ("LeftGloves", 127, "LeftGloves$World", "gloves", "I") (List.mem_of_getElem? (i := 4) rfl))
theorem nf_5 {D : va_G} {s : State} (h : KK D s) {args : Array Value} : (Cond.fieldLinkNest "LeftGloves$Glove" 27 "LeftGloves$World" "glove" "[[I" "LeftGloves").before args s = true := va_Nw.use rfl (h.2.1 ("LeftGloves$Glove", 27, "LeftGloves$World", "glove", "[[I") (List.mem_of_getElem? (i := 5) rfl))
theorem nf_6 {D : va_G} {s : State} (h : KK D s) {args : Array Value} : (Cond.fieldLinkNest "LeftGloves$Reader" 93 "LeftGloves$World" "glove" "[[I" "LeftGloves").before args s = true := va_Nw.use rfl (h.2.1 ("LeftGloves$Reader", 93, "LeftGloves$World", "glove", "[[I") (List.mem_of_getElem? (i := 6) rfl))
theorem nf_7 {D : va_G} {s : State} (h : KK D s) {args : Array Value} : (Cond.fieldLinkNest "LeftGloves" 114 "LeftGloves$World" "glove" "[[I" "LeftGloves").before args s = true := va_Nw.use rfl (h.2.1 ("LeftGloves", 114, "LeftGloves$World", "glove", "[[I") (List.mem_of_getElem? (i := 7) rfl))
theorem nf_8 {D : va_G} {s : State} (h : KK D s) {args : Array Value} : (Cond.fieldLinkNest "LeftGloves" 174 "LeftGloves$World" "gone" "I" "LeftGloves").before args s = true := va_Nw.use rfl (h.2.1 ("LeftGloves", 174, "LeftGloves$World", "gone", "I") (List.mem_of_getElem? (i := 8) rfl))
theorem nf_9 {D : va_G} {s : State} (h : KK D s) {args : Array Value} : (Cond.fieldLinkNest "LeftGloves" 184 "LeftGloves$World" "day" "I" "LeftGloves").before args s = true := va_Nw.use rfl (h.2.1 ("LeftGloves", 184, "LeftGloves$World", "day", "I") (List.mem_of_getElem? (i := 9) rfl))
theorem nf_10 {D : va_G} {s : State} (h : KK D s) {args : Array Value} : (Cond.fieldLinkNest "LeftGloves" 330 "LeftGloves$World" "z" "I" "LeftGloves").before args s = true := va_Nw.use rfl (h.2.1 ("LeftGloves", 330, "LeftGloves$World", "z", "I") (List.mem_of_getElem? (i := 10) rfl))
theorem nf_11 {D : va_G} {s : State} (h : KK D s) {args : Array Value} : (Cond.fieldLinkNest "LeftGloves" 353 "LeftGloves$World" "holds" "[I" "LeftGloves").before args s = true := va_Nw.use rfl (h.2.1 ("LeftGloves", 353, "LeftGloves$World", "holds", "[I") (List.mem_of_getElem? (i := 11) rfl))
theorem nf_12 {D : va_G} {s : State} (h : KK D s) {args : Array Value} : (Cond.fieldLinkNest "LeftGloves" 336 "LeftGloves$Reader" "tape" "[B" "LeftGloves").before args s = true := va_Nw.use rfl (h.2.1 ("LeftGloves", 336, "LeftGloves$Reader", "tape", "[B") (List.mem_of_getElem? (i := 12) rfl))
theorem nf_13 {D : va_G} {s : State} (h : KK D s) {args : Array Value} : (Cond.fieldLinkNest "LeftGloves" 342 "LeftGloves$Reader" "told" "LLeftGloves$World;" "LeftGloves").before args s = true := va_Nw.use rfl (h.2.1 ("LeftGloves", 342, "LeftGloves$Reader", "told", "LLeftGloves$World;") (List.mem_of_getElem? (i := 13) rfl))
theorem nf_14 {D : va_G} {s : State} (h : KK D s) {args : Array Value} : (Cond.fieldLinkNest "LeftGloves" 340 "LeftGloves$Reader" "length" "I" "LeftGloves").before args s = true := va_Nw.use rfl (h.2.1 ("LeftGloves", 340, "LeftGloves$Reader", "length", "I") (List.mem_of_getElem? (i := 14) rfl))
theorem nf_15 {D : va_G} {s : State} (h : KK D s) {args : Array Value} : (Cond.fieldLinkNest "LeftGloves" 350 "LeftGloves$Reader" "begin" "I" "LeftGloves").before args s = true := va_Nw.use rfl (h.2.1 ("LeftGloves", 350, "LeftGloves$Reader", "begin", "I") (List.mem_of_getElem? (i := 15) rfl))
theorem nf_16 {D : va_G} {s : State} (h : KK D s) {args : Array Value} : (Cond.fieldLinkNest "LeftGloves" 110 "LeftGloves$Slot" "thing" "Ljava/lang/Object;" "LeftGloves").before args s = true := va_Nw.use rfl (h.2.1 ("LeftGloves", 110, "LeftGloves$Slot", "thing", "Ljava/lang/Object;") (List.mem_of_getElem? (i := 16) rfl))
theorem nf_17 {D : va_G} {s : State} (h : KK D s) {args : Array Value} : (Cond.fieldLinkNest "LeftGloves$Double" 19 "LeftGloves" "d" "LLeftGloves$World;" "LeftGloves").before args s = true := va_Nw.use rfl (h.2.1 ("LeftGloves$Double", 19, "LeftGloves", "d", "LLeftGloves$World;") (List.mem_of_getElem? (i := 17) rfl))
theorem nf_18 {D : va_G} {s : State} (h : KK D s) {args : Array Value} : (Cond.fieldLinkNest "LeftGloves$Glove" 23 "LeftGloves" "d" "LLeftGloves$World;" "LeftGloves").before args s = true := va_Nw.use rfl (h.2.1 ("LeftGloves$Glove", 23, "LeftGloves", "d", "LLeftGloves$World;") (List.mem_of_getElem? (i := 18) rfl))
