/-! LeftGloves: odds -/
def dvI (a b : Nat) : Int32 := nI (Nat.gcd a b)
theorem k_X0_divisor {l : Launch} (a b : Nat) (ha : a ≤ 1000) (hb2 : b ≤ 1000) : Met l yX0_divisor (ws_ yX0_divisor cX0_divisor 5 (some .int)) ({ frames := 0, cells := 0, slots := 0, locals := 0 } : Room) (va_Pc [.int (nI a), .int (nI b)] pT) (rQ (.int (dvI a b))) 0 0 nof := by
  refine met_T (by decide) rfl (Nat.le_of_ble_eq_true rfl) ?_
  intro p e s m below meth c ls hx hb hr hml hown hts hlocks hl
  have F : CallFix p m c cX0_divisor 5 s _ lw_all RX0 := ⟨hx, hb, hml, hown, hts⟩
  have hl : lv_has ls 5 [(0, .int (nI a)), (1, .int (nI b))] := hl
  refine lv_iload_n hx hb dX0_divisor_0 rfl (lv_at hl 0 rfl) ?_
  refine lv_istore_n (lv' := [(2, .int (nI a)), (0, .int (nI a)), (1, .int (nI b))]) hx hb dX0_divisor_1 rfl hl (by decide) rfl (fun ls hl => ?_)
  refine lv_iload_n hx hb dX0_divisor_2 rfl (lv_at hl 2 rfl) ?_
  refine lv_istore_n (lv' := [(3, .int (nI b)), (2, .int (nI a)), (0, .int (nI a)), (1, .int (nI b))]) hx hb dX0_divisor_3 rfl hl (by decide) rfl (fun ls hl => ?_)
  have lp4 : ∀ (fuel : Nat) (i : Nat) (j : Nat), (i ≤ 1000) → (j ≤ 1000) → (Nat.gcd a b = Nat.gcd i j) → j < fuel → ∀ (v2 : Int32) (v3 : Int32), v2 = nI i → v3 = nI j → ∀ (ls : Array Slot), lv_has ls 5 [(0, .int (nI a)), (1, .int (nI b)), (2, .int v2), (3, .int v3)] → W p l e ({ frames := 0, cells := 0, slots := 0, locals := 0 } : Room) s m ([.int (nI a), .int (nI b)] : List Value).toArray below meth c s.heap [] 0 0 (MQ below (rQ (.int (dvI a b))) ([.int (nI a), .int (nI b)] : List Value).toArray s 0 0 nof) (F0 m 4 ls []) := by
    intro fuel
    induction fuel with
    | zero => intro i j hi hj hg hf; exact absurd hf (Nat.not_lt_zero _)
    | succ fuel ih4 =>
      intro i j hi hj hg hf4 v2 v3 e2 e3  ls hl
      subst e2 e3
      refine lv_iload_n hx hb dX0_divisor_4 rfl (lv_at hl 3 rfl) ?_
      refine lv_if_eq (tgt := 21) hx hb dX0_divisor_5 (by decide) (fun c_5 => ?_) (fun c_5 => ?_)
      · skip
        have c_5 : j = 0 := (neq (a := j) (b := 0) (rfl) (rfl) (by omega) (by omega)).mp c_5
        refine lv_iload_n hx hb dX0_divisor_21 rfl (lv_at hl 2 rfl) ?_
        exact W.iret hx hb hr (fun t ht _ => ⟨rI (by rw [dvI, hg, show j = 0 by omega, Nat.gcd_zero_right]), ht⟩) (fun q h => by cases h) dX0_divisor_22
      · skip
        have c_5 : ¬ j = 0 := fun z => c_5 ((neq (a := j) (b := 0) (rfl) (rfl) (by omega) (by omega)).mpr z)
        refine lv_iload_n hx hb dX0_divisor_8 rfl (lv_at hl 2 rfl) ?_
        refine lv_iload_n hx hb dX0_divisor_9 rfl (lv_at hl 3 rfl) ?_
        refine lv_irem hx hb dX0_divisor_10 (fun q => c_5 ((neq (a := j) (b := 0) rfl rfl (by omega) (by decide)).mp q)) ?_
        refine lv_istore (lv' := [(4, .int ((nI i) - (nI i) / (nI j) * (nI j))), (0, .int (nI a)), (1, .int (nI b)), (2, .int (nI i)), (3, .int (nI j))]) hx hb dX0_divisor_11 hl (by decide) rfl (fun ls hl => ?_)
        refine lv_iload_n hx hb dX0_divisor_13 rfl (lv_at hl 4 rfl) ?_
        refine lv_istore_n (lv' := [(2, .int (nI j)), (4, .int ((nI i) - (nI i) / (nI j) * (nI j))), (0, .int (nI a)), (1, .int (nI b)), (3, .int (nI j))]) hx hb dX0_divisor_14 rfl hl (by decide) rfl (fun ls hl => ?_)
        refine lv_iload hx hb dX0_divisor_15 (lv_at hl 1 rfl) ?_
        refine lv_istore_n (lv' := [(3, .int ((nI i) - (nI i) / (nI j) * (nI j))), (2, .int (nI j)), (4, .int ((nI i) - (nI i) / (nI j) * (nI j))), (0, .int (nI a)), (1, .int (nI b))]) hx hb dX0_divisor_17 rfl hl (by decide) rfl (fun ls hl => ?_)
        refine lv_goto (tgt := 4) hx hb dX0_divisor_18 (by decide) ?_
        exact ih4 (j) (i % j) (hj) (by have := Nat.mod_lt i (show 0 < j by omega); omega) (by rw [hg, Nat.gcd_comm, Nat.gcd_rec, Nat.gcd_comm]) (by have := Nat.mod_lt i (show 0 < j by omega); omega) (nI j) ((nI i) - (nI i) / (nI j) * (nI j)) (rfl) (pk_rem (by omega) (by omega) (by omega)) ls (lv_sub hl [3, 4, 1, 0] rfl)
  exact lp4 (_ + 1) (a) (b) (ha) (hb2) (rfl) (Nat.lt_succ_self _) (nI a) (nI b) (rfl) (rfl) ls (lv_sub hl [2, 3, 1, 0] rfl)
