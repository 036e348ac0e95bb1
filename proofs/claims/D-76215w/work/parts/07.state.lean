/-! a method's start; arrays by natural places; the two worlds -/
theorem met_I {l : Launch} {y : MethodName} {ws : List Cond} {rm : Room} {Qc : Array Value → State → Outcome → State → Prop} {mc ms : Nat} {free : Addr → Prop} {cc : ByteArray} {maxL : Nat} {ret : Option FieldType} {D : va_G} {cf : cmap} {A : Nat → Prop} {av : List Value} (hy : plainName y.cls = true) (hw0 : ws = Cond.code y cc maxL ret :: lw_all) (hn : (lg_sl av).length ≤ maxL)
    (body : ∀ (p : Program) (e : Env) (s : State) (m : MethodId) (below : List Frame) (meth : Method) (c : Code) (ls : Array Slot), p.tables.exec = Jvm.exec → c.code = cc → meth.sig.returnType = ret → c.maxLocals = maxL → s.vm.findClass y.cls = some m.cls → (∀ w ∈ lw_all, w.before av.toArray s = true) → meth.locks = false → lv_has ls maxL (lv_args 0 av) → hw D cf A s.heap → KK D s →
      W p l e rm s m av.toArray below meth c s.heap [] 0 0 (MQ below Qc av.toArray s mc ms free) (F0 m 0 ls [])) : Met l y ws rm (va_Pc av (pI D cf A)) Qc mc ms free := by
  refine Met.ofW (cc := cc) (maxL := maxL) (ret := ret) hy hw0 ?_
  intro p e s m args below meth c s₁ B hml hv
  obtain ⟨rfl, hI, hK⟩ := hv
  have hts := atoms_spec (ws := ws) B.pre
  have hl := lv_entry av (n := maxL) hn
  rw [lg_entry_eq]
  exact body p e s m below meth c _ B.exec B.bytes B.returns hml (findClass_of_methodNamed B.named) (fun w h => hts w (by rw [hw0]; exact List.mem_cons_of_mem _ h)) B.notSynchronized hl hI hK
theorem met_T {l : Launch} {y : MethodName} {ws : List Cond} {rm : Room} {Qc : Array Value → State → Outcome → State → Prop} {mc ms : Nat} {free : Addr → Prop} {cc : ByteArray} {maxL : Nat} {ret : Option FieldType} {av : List Value} (hy : plainName y.cls = true) (hw0 : ws = Cond.code y cc maxL ret :: lw_all) (hn : (lg_sl av).length ≤ maxL)
    (body : ∀ (p : Program) (e : Env) (s : State) (m : MethodId) (below : List Frame) (meth : Method) (c : Code) (ls : Array Slot), p.tables.exec = Jvm.exec → c.code = cc → meth.sig.returnType = ret → c.maxLocals = maxL → s.vm.findClass y.cls = some m.cls → (∀ w ∈ lw_all, w.before av.toArray s = true) → meth.locks = false → lv_has ls maxL (lv_args 0 av) →
      W p l e rm s m av.toArray below meth c s.heap [] 0 0 (MQ below Qc av.toArray s mc ms free) (F0 m 0 ls [])) : Met l y ws rm (va_Pc av pT) Qc mc ms free := by
  refine Met.ofW (cc := cc) (maxL := maxL) (ret := ret) hy hw0 ?_
  intro p e s m args below meth c s₁ B hml hv
  obtain ⟨rfl, -⟩ := hv
  have hts := atoms_spec (ws := ws) B.pre
  have hl := lv_entry av (n := maxL) hn
  rw [lg_entry_eq]
  exact body p e s m below meth c _ B.exec B.bytes B.returns hml (findClass_of_methodNamed B.named) (fun w h => hts w (by rw [hw0]; exact List.mem_cons_of_mem _ h)) B.notSynchronized hl
theorem rI {x y : Int32} (h : x = y) : Outcome.returned (some (.int x)) = Outcome.returned (some (.int y)) := by rw [h]
theorem rL {x y : Int64} (h : x = y) : Outcome.returned (some (.long x)) = Outcome.returned (some (.long y)) := by rw [h]
theorem rA {x y : Nat} (h : x = y) : Outcome.returned (some (.ref x)) = Outcome.returned (some (.ref y)) := by rw [h]
theorem hw_eq {D : va_G} {cf cf' : cmap} {A : Nat → Prop} {H : Heap} (hI : hw D cf A H) (h : cf = cf') : hw D cf' A H := h ▸ hI
theorem t_bl {p : Prop} [Decidable p] : narrow .boolean (.int (if p then (1 : Int32) else 0)) = .int (if p then (1 : Int32) else 0) := by
  by_cases h : p <;> simp only [h, if_true, if_false] <;> rfl
theorem t_bl2 {x : Int32} (h : x = 0 ∨ x = 1) : narrow .boolean (.int x) = .int x := by
  rcases h with rfl | rfl <;> rfl
theorem vp_c {j : Int32} {c n : Nat} (hj : j = nI c) (hc : c < n) (hn : n ≤ 1000) : vp_in j n := by rw [hj]; exact vp_in_nI hc (by omega)
theorem cl_c {j : Int32} {c n : Nat} (hj : j = nI c) (hc : c < n) (hn : n ≤ 1000) : j.toNatClampNeg = c := by rw [hj]; exact nI_clamp (by omega)
section ROWS2
variable {p : Program} {l : Launch} {e : Env} {R : Room} {s : State} {m : MethodId} {args : Array Value} {below : List Frame} {meth : Method} {c : Code} {H H0 : Heap} {locs : List Loc} {cells slots : Nat} {Q : State → Prop}
variable {cc : ByteArray} {pc : Nat} {ls : Array Slot} {rest : List Value} {A : Nat → Prop} {D : va_G} {cf cf' : cmap} {a : Nat}
theorem n_iald (hexec : p.tables.exec = Jvm.exec) (hb : c.code = cc) (hK : KK D s) (hI : hw D cf A H) {i : Nat} {n : Nat} {f : Nat → Int32} (he : cf i = some (a, .inl (D.1 100, n, .inl f))) {j : Int32} {k : Nat} (hj : j = nI k) (hk : k < n) (hn : n ≤ 1000) (hdg : decode cc pc = .ok (.iaload, 1))
    (kk : W p l e R s m args below meth c H locs cells slots Q (F0 m (pc + 1) ls (.int (f k) :: rest))) : W p l e R s m args below meth c H locs cells slots Q (F0 m pc ls (.int j :: .ref a :: rest)) :=
  r_iald hexec hb hK hI he (vp_c hj hk hn) hdg (by rw [cl_c hj hk hn]; exact kk)
theorem n_bald (hexec : p.tables.exec = Jvm.exec) (hb : c.code = cc) (hK : KK D s) (hI : hw D cf A H) {i : Nat} {n : Nat} {f : Nat → Int32} (he : cf i = some (a, .inl (D.1 101, n, .inl f))) {j : Int32} {k : Nat} (hj : j = nI k) (hk : k < n) (hn : n ≤ 1000) (hdg : decode cc pc = .ok (.baload, 1))
    (kk : W p l e R s m args below meth c H locs cells slots Q (F0 m (pc + 1) ls (.int (f k) :: rest))) : W p l e R s m args below meth c H locs cells slots Q (F0 m pc ls (.int j :: .ref a :: rest)) :=
  r_bald hexec hb hK hI he (vp_c hj hk hn) hdg (by rw [cl_c hj hk hn]; exact kk)
theorem n_sald (hexec : p.tables.exec = Jvm.exec) (hb : c.code = cc) (hK : KK D s) (hI : hw D cf A H) {i : Nat} {n : Nat} {f : Nat → Int32} (he : cf i = some (a, .inl (D.1 102, n, .inl f))) {j : Int32} {k : Nat} (hj : j = nI k) (hk : k < n) (hn : n ≤ 1000) (hdg : decode cc pc = .ok (.saload, 1))
    (kk : W p l e R s m args below meth c H locs cells slots Q (F0 m (pc + 1) ls (.int (f k) :: rest))) : W p l e R s m args below meth c H locs cells slots Q (F0 m pc ls (.int j :: .ref a :: rest)) :=
  r_sald hexec hb hK hI he (vp_c hj hk hn) hdg (by rw [cl_c hj hk hn]; exact kk)
theorem n_aaldI (hexec : p.tables.exec = Jvm.exec) (hb : c.code = cc) (hK : KK D s) (hI : hw D cf A H) {i : Nat} {n : Nat} {f : Nat → Nat} (he : cf i = some (a, .inl (D.1 103, n, .inr (.inr (.inr (.inr (fun k => some (f k)))))))) {j : Int32} {k : Nat} (hj : j = nI k) (hk : k < n) (hn : n ≤ 1000) (hdg : decode cc pc = .ok (.aaload, 1))
    (kk : W p l e R s m args below meth c H locs cells slots Q (F0 m (pc + 1) ls (.ref (f k) :: rest))) : W p l e R s m args below meth c H locs cells slots Q (F0 m pc ls (.int j :: .ref a :: rest)) :=
  r_aaldI hexec hb hK hI he (vp_c hj hk hn) (b := f k) (by show some (f j.toNatClampNeg) = some (f k); rw [cl_c hj hk hn]) hdg kk
theorem n_aaldS (hexec : p.tables.exec = Jvm.exec) (hb : c.code = cc) (hK : KK D s) (hI : hw D cf A H) {i : Nat} {n : Nat} {f : Nat → Nat} (he : cf i = some (a, .inl (D.1 104, n, .inr (.inr (.inr (.inr (fun k => some (f k)))))))) {j : Int32} {k : Nat} (hj : j = nI k) (hk : k < n) (hn : n ≤ 1000) (hdg : decode cc pc = .ok (.aaload, 1))
    (kk : W p l e R s m args below meth c H locs cells slots Q (F0 m (pc + 1) ls (.ref (f k) :: rest))) : W p l e R s m args below meth c H locs cells slots Q (F0 m pc ls (.int j :: .ref a :: rest)) :=
  r_aaldS hexec hb hK hI he (vp_c hj hk hn) (b := f k) (by show some (f j.toNatClampNeg) = some (f k); rw [cl_c hj hk hn]) hdg kk
theorem n_iast (hexec : p.tables.exec = Jvm.exec) (hb : c.code = cc) (hK : KK D s) (hI : hw D cf A H) (hS : va_S A H0 H locs) {i : Nat} {n : Nat} {f : Nat → Int32} (he : cf i = some (a, .inl (D.1 100, n, .inl f))) {j : Int32} {x : Int32} {k : Nat} (hj : j = nI k) (hk : k < n) (hn : n ≤ 1000) (hset : ∀ q, cf' q = if q = i then some (a, .inl (D.1 100, n, .inl (upd f k x))) else cf q) (hdg : decode cc pc = .ok (.iastore, 1))
    (kk : ∀ (H1 : Heap) (locs1 : List Loc), hw D cf' A H1 → va_S A H0 H1 locs1 → W p l e R s m args below meth c H1 locs1 cells slots Q (F0 m (pc + 1) ls rest)) : W p l e R s m args below meth c H locs cells slots Q (F0 m pc ls (.int x :: .int j :: .ref a :: rest)) :=
  r_iast hexec hb hK hI hS he (vp_c hj hk hn) (by rw [cl_c hj hk hn]; exact hset) hdg kk
theorem n_bast (hexec : p.tables.exec = Jvm.exec) (hb : c.code = cc) (hK : KK D s) (hI : hw D cf A H) (hS : va_S A H0 H locs) {i : Nat} {n : Nat} {f : Nat → Int32} (he : cf i = some (a, .inl (D.1 101, n, .inl f))) {j : Int32} {x x' : Int32} {k : Nat} (hj : j = nI k) (hk : k < n) (hn : n ≤ 1000) (hx' : vp_nar .byte x = x') (hset : ∀ q, cf' q = if q = i then some (a, .inl (D.1 101, n, .inl (upd f k x'))) else cf q) (hdg : decode cc pc = .ok (.bastore, 1))
    (kk : ∀ (H1 : Heap) (locs1 : List Loc), hw D cf' A H1 → va_S A H0 H1 locs1 → W p l e R s m args below meth c H1 locs1 cells slots Q (F0 m (pc + 1) ls rest)) : W p l e R s m args below meth c H locs cells slots Q (F0 m pc ls (.int x :: .int j :: .ref a :: rest)) :=
  r_bast hexec hb hK hI hS he (vp_c hj hk hn) (by rw [cl_c hj hk hn, hx']; exact hset) hdg kk
theorem n_sast (hexec : p.tables.exec = Jvm.exec) (hb : c.code = cc) (hK : KK D s) (hI : hw D cf A H) (hS : va_S A H0 H locs) {i : Nat} {n : Nat} {f : Nat → Int32} (he : cf i = some (a, .inl (D.1 102, n, .inl f))) {j : Int32} {x x' : Int32} {k : Nat} (hj : j = nI k) (hk : k < n) (hn : n ≤ 1000) (hx' : vp_nar .short x = x') (hset : ∀ q, cf' q = if q = i then some (a, .inl (D.1 102, n, .inl (upd f k x'))) else cf q) (hdg : decode cc pc = .ok (.sastore, 1))
    (kk : ∀ (H1 : Heap) (locs1 : List Loc), hw D cf' A H1 → va_S A H0 H1 locs1 → W p l e R s m args below meth c H1 locs1 cells slots Q (F0 m (pc + 1) ls rest)) : W p l e R s m args below meth c H locs cells slots Q (F0 m pc ls (.int x :: .int j :: .ref a :: rest)) :=
  r_sast hexec hb hK hI hS he (vp_c hj hk hn) (by rw [cl_c hj hk hn, hx']; exact hset) hdg kk
end ROWS2
/-! ===== the state ===== -/
/-- a world: rows 0 list, 1 (gloves, gone, day, z), 2..8 the gloves' fields, 9 holds -/
abbrev wd : Type := Nat → Nat → Int32
def u2 (w : wd) (r c : Nat) (v : Int32) : wd := fun r' => if r' = r then upd (w r) c v else w r'
theorem u2_same (w : wd) (r c : Nat) (v : Int32) : u2 w r c v r = upd (w r) c v := if_pos rfl
theorem u2_ne {w : wd} {r c r' : Nat} {v : Int32} (h : r' ≠ r) : u2 w r c v r' = w r' := if_neg h
theorem u2_at (w : wd) (r c : Nat) (v : Int32) (r' c' : Nat) : u2 w r c v r' c' = if r' = r ∧ c' = c then v else w r' c' := by
  unfold u2
  by_cases h : r' = r
  · subst h
    by_cases h2 : c' = c
    · subst h2; simp [upd]
    · simp [upd, h2]
  · simp [h]
/-- worlds (0 d, 1 kept, 2 aside, 3 told); rows of numbers (0: taped, isKept; 1: length, at, begin, token, value; 2 tape; 3 findings; 4: the refusal's finding); what the spots hold; the sheets (address, 0 byte | 1 short | 2 int, length, contents) -/
abbrev cst : Type := (Nat → wd) × (Nat → Nat → Int32) × (Nat → Option Nat) × (Nat → Option (Nat × Nat × Nat × (Nat → Int32)))
def xs (x : cst) (w : Nat) (f : wd) : cst := (fun k => if k = w then f else x.1 k, x.2)
def xr (x : cst) (r c : Nat) (v : Int32) : cst := (x.1, u2 x.2.1 r c v, x.2.2)
theorem xs_at (x : cst) (w : Nat) (f : wd) : (xs x w f).1 w = f := if_pos rfl
theorem xs_ne {x : cst} {w k : Nat} {f : wd} (h : k ≠ w) : (xs x w f).1 k = x.1 k := if_neg h
theorem xs_2 (x : cst) (w : Nat) (f : wd) : (xs x w f).2 = x.2 := rfl
theorem xs_xs (x : cst) (w : Nat) (f g : wd) : xs (xs x w f) w g = xs x w g := by
  refine Prod.ext ?_ rfl
  funext k
  by_cases h : k = w <;> simp [xs, h]
theorem xs_self (x : cst) (w : Nat) : xs x w (x.1 w) = x := by
  refine Prod.ext ?_ rfl
  funext k
  by_cases h : k = w
  · subst h; simp [xs]
  · simp [xs, h]
def shc : Nat → Nat
  | 0 => 101
  | 1 => 102
  | _ => 100
def cw_w (D : va_G) (L : Nat → Nat) (w : wd) (b : Nat) : Nat → va_E
  | 0 => .inr (4, [.ref (L (b + 1)), .int (w 1 0), .ref (L (b + 2)), .int (w 1 1), .int (w 1 2), .int (w 1 3), .ref (L (b + 10))])
  | 1 => .inl (D.1 100, 6, .inl (w 0))
  | 2 => .inl (D.1 103, 7, .inr (.inr (.inr (.inr (fun r => some (L (b + 3 + r)))))))
  | 10 => .inl (D.1 100, 10, .inl (w 9))
  | k => .inl (D.1 100, 8, .inl (w (k - 1)))
def cw_o (D : va_G) (L : Nat → Nat) (x : cst) (i : Nat) : va_E :=
  if i = 44 then .inr (0, [.ref (L 45), .ref (L 46), .int (x.2.1 0 0), .ref (L 0), .ref (L 11), .ref (L 22), .int (x.2.1 0 1), .ref (L 50), .ref (L 51), .ref (L 52), .ref (L 49)])
  else if i = 45 then .inr (1, [.null, .null, .null, .null, .null, .int 0, .int (x.2.1 4 0)])
  else if i = 46 then .inr (2, [.ref (L 47), .ref (L 48), .ref (L 33), .int (x.2.1 1 0), .int (x.2.1 1 1), .int (x.2.1 1 2), .int (x.2.1 1 3), .int (x.2.1 1 4)])
  else if i = 47 then .inr (3, [.null, .null, .null, .null, .null, .int 0])
  else if i = 48 then .inl (D.1 101, 120, .inl (x.2.1 2))
  else if i = 49 then .inl (D.1 100, 7, .inl (x.2.1 3))
  else if i = 50 then .inl (D.1 104, 56, .inr (.inr (.inr (.inr (fun k => some (L (67 + k)))))))
  else if i = 51 then .inl (D.1 104, 10, .inr (.inr (.inr (.inr (fun k => some (L (53 + k)))))))
  else if i = 52 then .inl (D.1 104, 4, .inr (.inr (.inr (.inr (fun k => some (L (63 + k)))))))
  else if i < 63 then .inr (5, [va_rf (x.2.2.1 (i - 53))])
  else if i < 67 then .inr (5, [va_rf ((x.2.2.2 (i - 63)).map (·.1))])
  else if i < 123 then .inr (5, [.ref (L (i + 56))])
  else .inr (6 + (i - 123) / 8, [.int (nI ((i - 123) % 8)), .ref (L 44), .ref (L 44), .ref (L 44), .ref (L 44)])
/-- the component's cells by number -/
def cfC (D : va_G) (L : Nat → Nat) (x : cst) : cmap := fun i =>
  if i < 44 then some (L i, cw_w D L (x.1 (i / 11)) (11 * (i / 11)) (i % 11))
  else if i < 179 then some (L i, cw_o D L x i)
  else if i < 183 then (x.2.2.2 (i - 179)).map (fun q => (q.1, .inl (D.1 (shc q.2.1), q.2.2.1, .inl q.2.2.2)))
  else none
section CF
variable {D : va_G} {L : Nat → Nat} {x : cst} {w r c : Nat} {v : Int32}
theorem cf_w (hw : w < 4) {k : Nat} (hk : k < 11) : cfC D L x (11 * w + k) = some (L (11 * w + k), cw_w D L (x.1 w) (11 * w) k) := by
  unfold cfC
  rw [if_pos (by omega), show (11 * w + k) / 11 = w by omega, show (11 * w + k) % 11 = k by omega]
theorem cf_W (hw : w < 4) : cfC D L x (11 * w) = some (L (11 * w), .inr (4, [.ref (L (11 * w + 1)), .int (x.1 w 1 0), .ref (L (11 * w + 2)), .int (x.1 w 1 1), .int (x.1 w 1 2), .int (x.1 w 1 3), .ref (L (11 * w + 10))])) := cf_w (k := 0) hw (by decide)
theorem cf_list (hw : w < 4) : cfC D L x (11 * w + 1) = some (L (11 * w + 1), .inl (D.1 100, 6, .inl (x.1 w 0))) := cf_w hw (by decide)
theorem cf_glove (hw : w < 4) : cfC D L x (11 * w + 2) = some (L (11 * w + 2), .inl (D.1 103, 7, .inr (.inr (.inr (.inr (fun r => some (L (11 * w + 3 + r)))))))) := cf_w hw (by decide)
theorem cf_holds (hw : w < 4) : cfC D L x (11 * w + 10) = some (L (11 * w + 10), .inl (D.1 100, 10, .inl (x.1 w 9))) := cf_w hw (by decide)
theorem cf_row (hw : w < 4) (hr : r < 7) : cfC D L x (11 * w + 3 + r) = some (L (11 * w + 3 + r), .inl (D.1 100, 8, .inl (x.1 w (2 + r)))) := by
  have h := cf_w (D := D) (L := L) (x := x) hw (k := 3 + r) (by omega)
  rw [← Nat.add_assoc] at h
  rw [h]
  match r, hr with
  | 0, _ => rfl
  | 1, _ => rfl
  | 2, _ => rfl
  | 3, _ => rfl
  | 4, _ => rfl
  | 5, _ => rfl
  | 6, _ => rfl
theorem cf_o {i : Nat} (h1 : 44 ≤ i) (h2 : i < 179) : cfC D L x i = some (L i, cw_o D L x i) := by
  unfold cfC
  rw [if_neg (by omega), if_pos h2]
theorem cf_main : cfC D L x 44 = some (L 44, .inr (0, [.ref (L 45), .ref (L 46), .int (x.2.1 0 0), .ref (L 0), .ref (L 11), .ref (L 22), .int (x.2.1 0 1), .ref (L 50), .ref (L 51), .ref (L 52), .ref (L 49)])) := rfl
theorem cf_refusal : cfC D L x 45 = some (L 45, .inr (1, [.null, .null, .null, .null, .null, .int 0, .int (x.2.1 4 0)])) := rfl
theorem cf_reader : cfC D L x 46 = some (L 46, .inr (2, [.ref (L 47), .ref (L 48), .ref (L 33), .int (x.2.1 1 0), .int (x.2.1 1 1), .int (x.2.1 1 2), .int (x.2.1 1 3), .int (x.2.1 1 4)])) := rfl
theorem cf_wrong : cfC D L x 47 = some (L 47, .inr (3, [.null, .null, .null, .null, .null, .int 0])) := rfl
theorem cf_tape : cfC D L x 48 = some (L 48, .inl (D.1 101, 120, .inl (x.2.1 2))) := rfl
theorem cf_find : cfC D L x 49 = some (L 49, .inl (D.1 100, 7, .inl (x.2.1 3))) := rfl
theorem cf_garr : cfC D L x 50 = some (L 50, .inl (D.1 104, 56, .inr (.inr (.inr (.inr (fun k => some (L (67 + k)))))))) := rfl
theorem cf_sparr : cfC D L x 51 = some (L 51, .inl (D.1 104, 10, .inr (.inr (.inr (.inr (fun k => some (L (53 + k)))))))) := rfl
theorem cf_sharr : cfC D L x 52 = some (L 52, .inl (D.1 104, 4, .inr (.inr (.inr (.inr (fun k => some (L (63 + k)))))))) := rfl
theorem cf_spot {k : Nat} (hk : k < 10) : cfC D L x (53 + k) = some (L (53 + k), .inr (5, [va_rf (x.2.2.1 k)])) := by
  rw [cf_o (by omega) (by omega)]
  unfold cw_o
  rw [if_neg (by omega), if_neg (by omega), if_neg (by omega), if_neg (by omega), if_neg (by omega), if_neg (by omega), if_neg (by omega), if_neg (by omega), if_neg (by omega), if_pos (by omega), show 53 + k - 53 = k by omega]
theorem cf_shsl {k : Nat} (hk : k < 4) : cfC D L x (63 + k) = some (L (63 + k), .inr (5, [va_rf ((x.2.2.2 k).map (·.1))])) := by
  rw [cf_o (by omega) (by omega)]
  unfold cw_o
  rw [if_neg (by omega), if_neg (by omega), if_neg (by omega), if_neg (by omega), if_neg (by omega), if_neg (by omega), if_neg (by omega), if_neg (by omega), if_neg (by omega), if_neg (by omega), if_pos (by omega), show 63 + k - 63 = k by omega]
theorem cf_gsl {k : Nat} (hk : k < 56) : cfC D L x (67 + k) = some (L (67 + k), .inr (5, [.ref (L (123 + k))])) := by
  rw [cf_o (by omega) (by omega)]
  unfold cw_o
  rw [if_neg (by omega), if_neg (by omega), if_neg (by omega), if_neg (by omega), if_neg (by omega), if_neg (by omega), if_neg (by omega), if_neg (by omega), if_neg (by omega), if_neg (by omega), if_neg (by omega), if_pos (by omega), show 67 + k + 56 = 123 + k by omega]
theorem cf_gl {k : Nat} (hk : k < 56) : cfC D L x (123 + k) = some (L (123 + k), .inr (6 + k / 8, [.int (nI (k % 8)), .ref (L 44), .ref (L 44), .ref (L 44), .ref (L 44)])) := by
  rw [cf_o (by omega) (by omega)]
  unfold cw_o
  rw [if_neg (by omega), if_neg (by omega), if_neg (by omega), if_neg (by omega), if_neg (by omega), if_neg (by omega), if_neg (by omega), if_neg (by omega), if_neg (by omega), if_neg (by omega), if_neg (by omega), if_neg (by omega), show 123 + k - 123 = k by omega]
theorem cf_sh {k : Nat} (hk : k < 4) {q : Nat × Nat × Nat × (Nat → Int32)} (hq : x.2.2.2 k = some q) : cfC D L x (179 + k) = some (q.1, .inl (D.1 (shc q.2.1), q.2.2.1, .inl q.2.2.2)) := by
  unfold cfC
  rw [if_neg (by omega), if_neg (by omega), if_pos (by omega), show 179 + k - 179 = k by omega, hq]
  rfl
/-- a world written: which cells change -/
theorem cs_w (hw : w < 4) {f : wd} (q : Nat) : cfC D L (xs x w f) q = if q / 11 = w then some (L q, cw_w D L f (11 * w) (q % 11)) else cfC D L x q := by
  by_cases h : q / 11 = w
  · rw [if_pos h]
    unfold cfC
    rw [if_pos (by omega), h, xs_at]
  · rw [if_neg h]
    unfold cfC
    rw [xs_ne h]
    rfl
theorem cs_cell (hw : w < 4) {f : wd} {k : Nat} (hk : k < 11) {e : va_E} (h1 : cw_w D L f (11 * w) k = e) (h2 : ∀ j, j < 11 → j ≠ k → cw_w D L f (11 * w) j = cw_w D L (x.1 w) (11 * w) j) (q : Nat) : cfC D L (xs x w f) q = if q = 11 * w + k then some (L (11 * w + k), e) else cfC D L x q := by
  rw [cs_w hw]
  by_cases h : q / 11 = w
  · rw [if_pos h]
    by_cases hq : q = 11 * w + k
    · rw [if_pos hq, hq, show (11 * w + k) % 11 = k by omega, h1]
    · rw [if_neg hq, h2 (q % 11) (by omega) (by omega)]
      unfold cfC
      rw [if_pos (by omega), h]
  · rw [if_neg h, if_neg (by omega)]
def ww_r : Nat → Nat
  | 0 => 1
  | 1 => 0
  | 2 => 100
  | 10 => 9
  | k => k - 1
theorem ww_ne (f g : wd) (b : Nat) (r0 : Nat) (hf : ∀ r, r ≠ r0 → f r = g r) {j : Nat} (hj : j < 11) (hn : r0 ≠ ww_r j) : cw_w D L f b j = cw_w D L g b j := by
  match j, hj, hn with
  | 0, _, hn => simp only [cw_w]; rw [hf 1 (Ne.symm hn)]
  | 1, _, hn => simp only [cw_w]; rw [hf 0 (Ne.symm hn)]
  | 2, _, _ => rfl
  | 3, _, hn => simp only [cw_w]; rw [hf (3 - 1) (Ne.symm hn)]
  | 4, _, hn => simp only [cw_w]; rw [hf (4 - 1) (Ne.symm hn)]
  | 5, _, hn => simp only [cw_w]; rw [hf (5 - 1) (Ne.symm hn)]
  | 6, _, hn => simp only [cw_w]; rw [hf (6 - 1) (Ne.symm hn)]
  | 7, _, hn => simp only [cw_w]; rw [hf (7 - 1) (Ne.symm hn)]
  | 8, _, hn => simp only [cw_w]; rw [hf (8 - 1) (Ne.symm hn)]
  | 9, _, hn => simp only [cw_w]; rw [hf (9 - 1) (Ne.symm hn)]
  | 10, _, hn => simp only [cw_w]; rw [hf 9 (Ne.symm hn)]
theorem cs_list (hw : w < 4) (q : Nat) : cfC D L (xs x w (u2 (x.1 w) 0 c v)) q = if q = 11 * w + 1 then some (L (11 * w + 1), .inl (D.1 100, 6, .inl (upd (x.1 w 0) c v))) else cfC D L x q :=
  cs_cell hw (k := 1) (by decide) (by simp only [cw_w, u2_same]) (fun j hj hn => ww_ne _ _ _ 0 (fun r h => u2_ne h) hj (by match j, hj, hn with | 0, _, _ => decide | 2, _, _ => decide | 3, _, _ => decide | 4, _, _ => decide | 5, _, _ => decide | 6, _, _ => decide | 7, _, _ => decide | 8, _, _ => decide | 9, _, _ => decide | 10, _, _ => decide)) q
theorem cs_holds (hw : w < 4) (q : Nat) : cfC D L (xs x w (u2 (x.1 w) 9 c v)) q = if q = 11 * w + 10 then some (L (11 * w + 10), .inl (D.1 100, 10, .inl (upd (x.1 w 9) c v))) else cfC D L x q :=
  cs_cell hw (k := 10) (by decide) (by simp only [cw_w, u2_same]) (fun j hj hn => ww_ne _ _ _ 9 (fun r h => u2_ne h) hj (by match j, hj, hn with | 0, _, _ => decide | 1, _, _ => decide | 2, _, _ => decide | 3, _, _ => decide | 4, _, _ => decide | 5, _, _ => decide | 6, _, _ => decide | 7, _, _ => decide | 8, _, _ => decide | 9, _, _ => decide | 10, _, hn => exact absurd rfl hn)) q
theorem cs_row (hw : w < 4) (hr : r < 7) (q : Nat) : cfC D L (xs x w (u2 (x.1 w) (2 + r) c v)) q = if q = 11 * w + 3 + r then some (L (11 * w + 3 + r), .inl (D.1 100, 8, .inl (upd (x.1 w (2 + r)) c v))) else cfC D L x q := by
  rw [cs_cell hw (k := 3 + r) (by omega) (e := .inl (D.1 100, 8, .inl (upd (x.1 w (2 + r)) c v)))]
  · rw [Nat.add_assoc]
  · match r, hr with
    | 0, _ => simp only [cw_w]; rw [u2_same]
    | 1, _ => simp only [cw_w]; rw [u2_same]
    | 2, _ => simp only [cw_w]; rw [u2_same]
    | 3, _ => simp only [cw_w]; rw [u2_same]
    | 4, _ => simp only [cw_w]; rw [u2_same]
    | 5, _ => simp only [cw_w]; rw [u2_same]
    | 6, _ => simp only [cw_w]; rw [u2_same]
  · intro j hj hn
    refine ww_ne _ _ _ (2 + r) (fun r h => u2_ne h) hj ?_
    match j, hj, hn with
    | 0, _, _ => show 2 + r ≠ 1; omega
    | 1, _, _ => show 2 + r ≠ 0; omega
    | 2, _, _ => show 2 + r ≠ 100; omega
    | 3, _, _ => show 2 + r ≠ 2; omega
    | 4, _, _ => show 2 + r ≠ 3; omega
    | 5, _, _ => show 2 + r ≠ 4; omega
    | 6, _, _ => show 2 + r ≠ 5; omega
    | 7, _, _ => show 2 + r ≠ 6; omega
    | 8, _, _ => show 2 + r ≠ 7; omega
    | 9, _, _ => show 2 + r ≠ 8; omega
    | 10, _, _ => show 2 + r ≠ 9; omega
theorem cs_sc (hw : w < 4) (hc : c < 4) {fs : List Value} (hfs : [.ref (L (11 * w + 1)), .int (u2 (x.1 w) 1 c v 1 0), .ref (L (11 * w + 2)), .int (u2 (x.1 w) 1 c v 1 1), .int (u2 (x.1 w) 1 c v 1 2), .int (u2 (x.1 w) 1 c v 1 3), .ref (L (11 * w + 10))] = fs) (q : Nat) : cfC D L (xs x w (u2 (x.1 w) 1 c v)) q = if q = 11 * w then some (L (11 * w), .inr (4, fs)) else cfC D L x q := by
  subst hfs
  exact cs_cell hw (k := 0) (by decide) rfl (fun j hj hn => ww_ne _ _ _ 1 (fun r h => u2_ne h) hj (by match j, hj, hn with | 1, _, _ => decide | 2, _, _ => decide | 3, _, _ => decide | 4, _, _ => decide | 5, _, _ => decide | 6, _, _ => decide | 7, _, _ => decide | 8, _, _ => decide | 9, _, _ => decide | 10, _, _ => decide)) q
/-- a row of numbers written -/
theorem cs_r {f : Nat → Nat → Int32} {i : Nat} {e : va_E} (hi : 44 ≤ i) (hi2 : i < 179) (h1 : cw_o D L (x.1, f, x.2.2) i = e) (h2 : ∀ j, 44 ≤ j → j < 179 → j ≠ i → cw_o D L (x.1, f, x.2.2) j = cw_o D L x j) (q : Nat) : cfC D L (x.1, f, x.2.2) q = if q = i then some (L i, e) else cfC D L x q := by
  by_cases hq : q = i
  · rw [if_pos hq, hq, cf_o hi hi2, h1]
  · rw [if_neg hq]
    unfold cfC
    by_cases a : q < 44
    · rw [if_pos a, if_pos a]
    · by_cases b : q < 179
      · rw [if_neg a, if_pos b, if_neg a, if_pos b, h2 q (by omega) b hq]
      · rw [if_neg a, if_neg b, if_neg a, if_neg b]
theorem cs_tape (q : Nat) : cfC D L (xr x 2 c v) q = if q = 48 then some (L 48, .inl (D.1 101, 120, .inl (upd (x.2.1 2) c v))) else cfC D L x q :=
  cs_r (by decide) (by decide) rfl (fun j h1 h2 hn => by
    unfold cw_o
    simp only [u2_ne (show (0 : Nat) ≠ 2 by decide), u2_ne (show (1 : Nat) ≠ 2 by decide), u2_ne (show (3 : Nat) ≠ 2 by decide), u2_ne (show (4 : Nat) ≠ 2 by decide), if_neg hn]) q
theorem cs_find (q : Nat) : cfC D L (xr x 3 c v) q = if q = 49 then some (L 49, .inl (D.1 100, 7, .inl (upd (x.2.1 3) c v))) else cfC D L x q :=
  cs_r (by decide) (by decide) rfl (fun j h1 h2 hn => by
    unfold cw_o
    simp only [u2_ne (show (0 : Nat) ≠ 3 by decide), u2_ne (show (1 : Nat) ≠ 3 by decide), u2_ne (show (2 : Nat) ≠ 3 by decide), u2_ne (show (4 : Nat) ≠ 3 by decide), if_neg hn]) q
theorem cs_refusal (q : Nat) : cfC D L (xr x 4 0 v) q = if q = 45 then some (L 45, .inr (1, [.null, .null, .null, .null, .null, .int 0, .int v])) else cfC D L x q :=
  cs_r (by decide) (by decide) (by simp [cw_o, u2, upd]) (fun j h1 h2 hn => by
    unfold cw_o
    simp only [u2_ne (show (0 : Nat) ≠ 4 by decide), u2_ne (show (1 : Nat) ≠ 4 by decide), u2_ne (show (2 : Nat) ≠ 4 by decide), u2_ne (show (3 : Nat) ≠ 4 by decide), if_neg hn]) q
theorem cs_main {fs : List Value} (hfs : [.ref (L 45), .ref (L 46), .int (u2 x.2.1 0 c v 0 0), .ref (L 0), .ref (L 11), .ref (L 22), .int (u2 x.2.1 0 c v 0 1), .ref (L 50), .ref (L 51), .ref (L 52), .ref (L 49)] = fs) (q : Nat) : cfC D L (xr x 0 c v) q = if q = 44 then some (L 44, .inr (0, fs)) else cfC D L x q := by
  subst hfs
  exact cs_r (by decide) (by decide) rfl (fun j h1 h2 hn => by
    unfold cw_o
    simp only [u2_ne (show (1 : Nat) ≠ 0 by decide), u2_ne (show (4 : Nat) ≠ 0 by decide), u2_ne (show (2 : Nat) ≠ 0 by decide), u2_ne (show (3 : Nat) ≠ 0 by decide), if_neg hn]) q
theorem cs_reader {fs : List Value} (hfs : [.ref (L 47), .ref (L 48), .ref (L 33), .int (u2 x.2.1 1 c v 1 0), .int (u2 x.2.1 1 c v 1 1), .int (u2 x.2.1 1 c v 1 2), .int (u2 x.2.1 1 c v 1 3), .int (u2 x.2.1 1 c v 1 4)] = fs) (q : Nat) : cfC D L (xr x 1 c v) q = if q = 46 then some (L 46, .inr (2, fs)) else cfC D L x q := by
  subst hfs
  exact cs_r (by decide) (by decide) rfl (fun j h1 h2 hn => by
    unfold cw_o
    simp only [u2_ne (show (0 : Nat) ≠ 1 by decide), u2_ne (show (4 : Nat) ≠ 1 by decide), u2_ne (show (2 : Nat) ≠ 1 by decide), u2_ne (show (3 : Nat) ≠ 1 by decide), if_neg hn]) q
end CF
/-! ===== the model's state: worlds (0 d, 1 e, 2 aside, 3 kept); rows (0: isKept, taped, at, sort, from, fault; 1 found; 2 tape; 3 bitsOf; 4 sizeOf; 5 number; 6 passing); value ===== -/
abbrev mst : Type := (Nat → wd) × (Nat → Nat → Int32) × Int64
def md (w : wd) : Nat → Int32 := fun j => if j = 0 then w 1 0 else if j = 1 then w 1 2 else if j = 2 then w 1 3 else if j < 9 then w 0 (j - 3) else if j < 65 then w (2 + (j - 9) / 8) ((j - 9) % 8) else w 9 (j - 65) + 1
def ys (x : mst) (w : Nat) (f : wd) : mst := (fun k => if k = w then f else x.1 k, x.2)
def yr (x : mst) (r c : Nat) (v : Int32) : mst := (x.1, u2 x.2.1 r c v, x.2.2)
theorem ys_at (x : mst) (w : Nat) (f : wd) : (ys x w f).1 w = f := if_pos rfl
theorem ys_ne {x : mst} {w k : Nat} {f : wd} (h : k ≠ w) : (ys x w f).1 k = x.1 k := if_neg h
theorem ys_2 (x : mst) (w : Nat) (f : wd) : (ys x w f).2 = x.2 := rfl
theorem ys_ys (x : mst) (w : Nat) (f g : wd) : ys (ys x w f) w g = ys x w g := by
  refine Prod.ext ?_ rfl
  funext k
  by_cases h : k = w <;> simp [ys, h]
theorem ys_self (x : mst) (w : Nat) : ys x w (x.1 w) = x := by
  refine Prod.ext ?_ rfl
  funext k
  by_cases h : k = w
  · subst h; simp [ys]
  · simp [ys, h]
theorem md_N (w : wd) : md w 0 = w 1 0 := rfl
theorem md_day (w : wd) : md w 1 = w 1 2 := rfl
theorem md_z (w : wd) : md w 2 = w 1 3 := rfl
theorem md_list (w : wd) {c : Nat} (h : c < 6) : md w (3 + c) = w 0 c := by
  unfold md
  rw [if_neg (by omega), if_neg (by omega), if_neg (by omega), if_pos (by omega), show 3 + c - 3 = c by omega]
theorem md_row (w : wd) {r c : Nat} (hr : r < 7) (hc : c < 8) : md w (9 + 8 * r + c) = w (2 + r) c := by
  unfold md
  rw [if_neg (by omega), if_neg (by omega), if_neg (by omega), if_neg (by omega), if_pos (by omega), show (9 + 8 * r + c - 9) / 8 = r by omega, show (9 + 8 * r + c - 9) % 8 = c by omega]
theorem md_hold (w : wd) (c : Nat) : md w (65 + c) = w 9 c + 1 := by
  unfold md
  rw [if_neg (by omega), if_neg (by omega), if_neg (by omega), if_neg (by omega), if_neg (by omega), show 65 + c - 65 = c by omega]
theorem mu_row (w : wd) {r c : Nat} (hr : r < 7) (hc : c < 8) (v : Int32) : md (u2 w (2 + r) c v) = upd (md w) (9 + 8 * r + c) v := by
  funext j
  unfold upd md
  simp only [u2_at]
  by_cases h : j = 9 + 8 * r + c
  · subst h
    rw [if_neg (by omega), if_neg (by omega), if_neg (by omega), if_neg (by omega), if_pos (by omega), if_pos rfl, if_pos ⟨by omega, by omega⟩]
  · rw [if_neg h]
    by_cases h0 : j = 0
    · rw [if_pos h0, if_pos h0, if_neg (by omega)]
    · by_cases h1 : j = 1
      · rw [if_neg h0, if_pos h1, if_neg h0, if_pos h1, if_neg (by omega)]
      · by_cases h2 : j = 2
        · rw [if_neg h0, if_neg h1, if_pos h2, if_neg h0, if_neg h1, if_pos h2, if_neg (by omega)]
        · by_cases h3 : j < 9
          · rw [if_neg h0, if_neg h1, if_neg h2, if_pos h3, if_neg h0, if_neg h1, if_neg h2, if_pos h3, if_neg (by omega)]
          · by_cases h4 : j < 65
            · rw [if_neg h0, if_neg h1, if_neg h2, if_neg h3, if_pos h4, if_neg h0, if_neg h1, if_neg h2, if_neg h3, if_pos h4, if_neg (by omega)]
            · rw [if_neg h0, if_neg h1, if_neg h2, if_neg h3, if_neg h4, if_neg h0, if_neg h1, if_neg h2, if_neg h3, if_neg h4, if_neg (by omega)]
theorem mu_list (w : wd) {c : Nat} (hc : c < 6) (v : Int32) : md (u2 w 0 c v) = upd (md w) (3 + c) v := by
  funext j
  unfold upd md
  simp only [u2_at]
  by_cases h : j = 3 + c
  · subst h
    rw [if_neg (by omega), if_neg (by omega), if_neg (by omega), if_pos (by omega), if_pos rfl, if_pos ⟨trivial, by omega⟩]
  · rw [if_neg h]
    by_cases h0 : j = 0
    · rw [if_pos h0, if_pos h0, if_neg (by omega)]
    · by_cases h1 : j = 1
      · rw [if_neg h0, if_pos h1, if_neg h0, if_pos h1, if_neg (by omega)]
      · by_cases h2 : j = 2
        · rw [if_neg h0, if_neg h1, if_pos h2, if_neg h0, if_neg h1, if_pos h2, if_neg (by omega)]
        · by_cases h3 : j < 9
          · rw [if_neg h0, if_neg h1, if_neg h2, if_pos h3, if_neg h0, if_neg h1, if_neg h2, if_pos h3, if_neg (by omega)]
          · by_cases h4 : j < 65
            · rw [if_neg h0, if_neg h1, if_neg h2, if_neg h3, if_pos h4, if_neg h0, if_neg h1, if_neg h2, if_neg h3, if_pos h4, if_neg (by omega)]
            · rw [if_neg h0, if_neg h1, if_neg h2, if_neg h3, if_neg h4, if_neg h0, if_neg h1, if_neg h2, if_neg h3, if_neg h4, if_neg (by omega)]
theorem mu_hold (w : wd) (c : Nat) (v : Int32) : md (u2 w 9 c v) = upd (md w) (65 + c) (v + 1) := by
  funext j
  unfold upd md
  simp only [u2_at]
  by_cases h : j = 65 + c
  · subst h
    rw [if_neg (by omega), if_neg (by omega), if_neg (by omega), if_neg (by omega), if_neg (by omega), if_pos rfl, if_pos ⟨trivial, by omega⟩]
  · rw [if_neg h]
    by_cases h0 : j = 0
    · rw [if_pos h0, if_pos h0, if_neg (by omega)]
    · by_cases h1 : j = 1
      · rw [if_neg h0, if_pos h1, if_neg h0, if_pos h1, if_neg (by omega)]
      · by_cases h2 : j = 2
        · rw [if_neg h0, if_neg h1, if_pos h2, if_neg h0, if_neg h1, if_pos h2, if_neg (by omega)]
        · by_cases h3 : j < 9
          · rw [if_neg h0, if_neg h1, if_neg h2, if_pos h3, if_neg h0, if_neg h1, if_neg h2, if_pos h3, if_neg (by omega)]
          · by_cases h4 : j < 65
            · rw [if_neg h0, if_neg h1, if_neg h2, if_neg h3, if_pos h4, if_neg h0, if_neg h1, if_neg h2, if_neg h3, if_pos h4, if_neg (by omega)]
            · rw [if_neg h0, if_neg h1, if_neg h2, if_neg h3, if_neg h4, if_neg h0, if_neg h1, if_neg h2, if_neg h3, if_neg h4, if_neg (by omega)]
theorem mu_sc (w : wd) (c k : Nat) (v : Int32) (h : (c = 0 ∧ k = 0) ∨ (c = 2 ∧ k = 1) ∨ (c = 3 ∧ k = 2)) : md (u2 w 1 c v) = upd (md w) k v := by
  funext j
  unfold upd md
  simp only [u2_at]
  by_cases h0 : j = 0
  · rw [if_pos h0, if_pos h0]
    by_cases hk : j = k
    · rw [if_pos hk, if_pos ⟨trivial, by omega⟩]
    · rw [if_neg hk, if_neg (by omega)]
  · by_cases h1 : j = 1
    · rw [if_neg h0, if_pos h1, if_neg h0, if_pos h1]
      by_cases hk : j = k
      · rw [if_pos hk, if_pos ⟨trivial, by omega⟩]
      · rw [if_neg hk, if_neg (by omega)]
    · by_cases h2 : j = 2
      · rw [if_neg h0, if_neg h1, if_pos h2, if_neg h0, if_neg h1, if_pos h2]
        by_cases hk : j = k
        · rw [if_pos hk, if_pos ⟨trivial, by omega⟩]
        · rw [if_neg hk, if_neg (by omega)]
      · rw [if_neg h0, if_neg h1, if_neg h2, if_neg h0, if_neg h1, if_neg h2, if_neg (show ¬ j = k by omega)]
        by_cases h3 : j < 9
        · rw [if_pos h3, if_pos h3, if_neg (by omega)]
        · by_cases h4 : j < 65
          · rw [if_neg h3, if_pos h4, if_neg h3, if_pos h4, if_neg (by omega)]
          · rw [if_neg h3, if_neg h4, if_neg h3, if_neg h4, if_neg (by omega)]
/-- who is away isn't in the row -/
theorem mu_gone (w : wd) (v : Int32) : md (u2 w 1 1 v) = md w := by
  funext j
  unfold md
  simp only [u2_at]
  by_cases h0 : j = 0
  · rw [if_pos h0, if_pos h0, if_neg (by omega)]
  · by_cases h1 : j = 1
    · rw [if_neg h0, if_pos h1, if_neg h0, if_pos h1, if_neg (by omega)]
    · by_cases h2 : j = 2
      · rw [if_neg h0, if_neg h1, if_pos h2, if_neg h0, if_neg h1, if_pos h2, if_neg (by omega)]
      · rw [if_neg h0, if_neg h1, if_neg h2, if_neg h0, if_neg h1, if_neg h2]
        by_cases h3 : j < 9
        · rw [if_pos h3, if_pos h3, if_neg (by omega)]
        · by_cases h4 : j < 65
          · rw [if_neg h3, if_pos h4, if_neg h3, if_pos h4, if_neg (by omega)]
          · rw [if_neg h3, if_neg h4, if_neg h3, if_neg h4, if_neg (by omega)]
def cm_f (L : Nat → Nat) (y : mst) : List Value := [.ref (L 1), .ref (L 2), .ref (L 3), .ref (L 4), .int (y.2.1 0 0), .ref (L 5), .ref (L 6), .int (y.2.1 0 1), .int (y.1 0 1 1), .int (y.2.1 0 2), .int (y.2.1 0 3), .int (y.2.1 0 4), .long y.2.2, .int (y.2.1 0 5), .ref (L 7), .ref (L 8), .ref (L 9), .ref (L 10)]
/-- the model's cells by number -/
def cfM (D : va_G) (L : Nat → Nat) (y : mst) : cmap := fun i =>
  if i = 0 then some (L 0, .inr (13, cm_f L y))
  else if i < 5 then some (L i, .inl (D.1 100, 75, .inl (md (y.1 (i - 1)))))
  else if i = 5 then some (L 5, .inl (D.1 100, 7, .inl (y.2.1 1)))
  else if i = 6 then some (L 6, .inl (D.1 101, 120, .inl (y.2.1 2)))
  else if i = 7 then some (L 7, .inl (D.1 100, 4, .inl (y.2.1 3)))
  else if i = 8 then some (L 8, .inl (D.1 100, 4, .inl (y.2.1 4)))
  else if i = 9 then some (L 9, .inl (D.1 100, 160, .inl (y.2.1 5)))
  else if i = 10 then some (L 10, .inl (D.1 100, 40, .inl (y.2.1 6)))
  else none
section MF
variable {D : va_G} {L : Nat → Nat} {y : mst} {w r c : Nat} {v : Int32}
theorem mf_main : cfM D L y 0 = some (L 0, .inr (13, cm_f L y)) := rfl
theorem mf_d : cfM D L y 1 = some (L 1, .inl (D.1 100, 75, .inl (md (y.1 0)))) := rfl
theorem mf_e : cfM D L y 2 = some (L 2, .inl (D.1 100, 75, .inl (md (y.1 1)))) := rfl
theorem mf_aside : cfM D L y 3 = some (L 3, .inl (D.1 100, 75, .inl (md (y.1 2)))) := rfl
theorem mf_kept : cfM D L y 4 = some (L 4, .inl (D.1 100, 75, .inl (md (y.1 3)))) := rfl
theorem mf_found : cfM D L y 5 = some (L 5, .inl (D.1 100, 7, .inl (y.2.1 1))) := rfl
theorem mf_tape : cfM D L y 6 = some (L 6, .inl (D.1 101, 120, .inl (y.2.1 2))) := rfl
theorem mf_bits : cfM D L y 7 = some (L 7, .inl (D.1 100, 4, .inl (y.2.1 3))) := rfl
theorem mf_size : cfM D L y 8 = some (L 8, .inl (D.1 100, 4, .inl (y.2.1 4))) := rfl
theorem mf_num : cfM D L y 9 = some (L 9, .inl (D.1 100, 160, .inl (y.2.1 5))) := rfl
theorem mf_pass : cfM D L y 10 = some (L 10, .inl (D.1 100, 40, .inl (y.2.1 6))) := rfl
theorem mf_w (hw : w < 4) : cfM D L y (1 + w) = some (L (1 + w), .inl (D.1 100, 75, .inl (md (y.1 w)))) := by
  match w, hw with
  | 0, _ => rfl
  | 1, _ => rfl
  | 2, _ => rfl
  | 3, _ => rfl
/-- a write into d (or another of the four rows) that leaves 'gone' -/
theorem ms_w (hw : w < 4) {f : wd} {g : Nat → Int32} (hg : md f = g) (h1 : f 1 1 = y.1 w 1 1) (q : Nat) : cfM D L (ys y w f) q = if q = 1 + w then some (L (1 + w), .inl (D.1 100, 75, .inl g)) else cfM D L y q := by
  subst hg
  by_cases hq : q = 1 + w
  · rw [if_pos hq, hq, mf_w hw, ys_at]
  · rw [if_neg hq]
    unfold cfM
    by_cases h0 : q = 0
    · rw [if_pos h0, if_pos h0]
      have : cm_f L (ys y w f) = cm_f L y := by
        unfold cm_f
        rw [ys_2]
        have h3 : (ys y w f).1 0 1 1 = y.1 0 1 1 := by
          by_cases h4 : 0 = w
          · subst h4; rw [ys_at]; exact h1
          · rw [ys_ne h4]
        rw [h3]
      rw [this]
    · by_cases h5 : q < 5
      · rw [if_neg h0, if_pos h5, if_neg h0, if_pos h5, ys_ne (by omega)]
      · rw [if_neg h0, if_neg h5, if_neg h0, if_neg h5, ys_2]
theorem ms_r (hr : 1 ≤ r) (hr7 : r < 7) {cA : ClassId} {n : Nat} (he : cfM D L y (4 + r) = some (L (4 + r), .inl (cA, n, .inl (y.2.1 r)))) (q : Nat) : cfM D L (yr y r c v) q = if q = 4 + r then some (L (4 + r), .inl (cA, n, .inl (upd (y.2.1 r) c v))) else cfM D L y q := by
  have hm : cm_f L (yr y r c v) = cm_f L y := by
    unfold cm_f yr
    simp only [u2_ne (show (0 : Nat) ≠ r by omega)]
  match r, hr, hr7, he, hm with
  | 1, _, _, he, hm =>
    unfold cfM at he ⊢
    rw [hm]
    simp [yr, u2] at he ⊢
    by_cases hq : q = 5
    · subst hq; simp [he]
    · simp [hq]
  | 2, _, _, he, hm =>
    unfold cfM at he ⊢
    rw [hm]
    simp [yr, u2] at he ⊢
    by_cases hq : q = 6
    · subst hq; simp [he]
    · simp [hq]
  | 3, _, _, he, hm =>
    unfold cfM at he ⊢
    rw [hm]
    simp [yr, u2] at he ⊢
    by_cases hq : q = 7
    · subst hq; simp [he]
    · simp [hq]
  | 4, _, _, he, hm =>
    unfold cfM at he ⊢
    rw [hm]
    simp [yr, u2] at he ⊢
    by_cases hq : q = 8
    · subst hq; simp [he]
    · simp [hq]
  | 5, _, _, he, hm =>
    unfold cfM at he ⊢
    rw [hm]
    simp [yr, u2] at he ⊢
    by_cases hq : q = 9
    · subst hq; simp [he]
    · simp [hq]
  | 6, _, _, he, hm =>
    unfold cfM at he ⊢
    rw [hm]
    simp [yr, u2] at he ⊢
    by_cases hq : q = 10
    · subst hq; simp [he]
    · simp [hq]
theorem ms_main {y' : mst} {fs : List Value} (hfs : cm_f L y' = fs) (h1 : ∀ k, md (y'.1 k) = md (y.1 k)) (h2 : ∀ r, r ≠ 0 → y'.2.1 r = y.2.1 r) (q : Nat) : cfM D L y' q = if q = 0 then some (L 0, .inr (13, fs)) else cfM D L y q := by
  subst hfs
  by_cases hq : q = 0
  · rw [if_pos hq, hq]; rfl
  · rw [if_neg hq]
    unfold cfM
    rw [if_neg hq, if_neg hq, h1, h2 1 (by decide), h2 2 (by decide), h2 3 (by decide), h2 4 (by decide), h2 5 (by decide), h2 6 (by decide)]
end MF
