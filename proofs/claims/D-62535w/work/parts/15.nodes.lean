/-! NODES: their picture, their values -/
/-- what a node of kind K works out of its two numbers in a state -/
def wk (K p q : Nat) (st : Nat → Nat) : Nat := if K = 0 then p else if K = 1 then st p else if K = 2 then st (3 + p % 2) else if K = 3 then (p + q) % 8 else if K = 4 then (p + 8 - q) % 8 else if K = 5 then p &&& q else if K = 6 then (if p < q then 1 else 0) else if K = 7 then (if p = q then 1 else 0) else if K = 8 then 1 - p else p * q
def ndP (K NA : Nat) : Int := if K ≤ 1 then -1 else NA
def ndQ (K NB : Nat) : Int := if K ≤ 2 then -1 else if K = 8 then -1 else NB
def ciK (K : Nat) : Nat := if K = 0 then 9 else if K = 1 then 10 else if K = 2 then 11 else if K = 3 then 12 else if K = 4 then 12 else if K = 5 then 13 else if K = 6 then 14 else if K = 7 then 15 else if K = 8 then 16 else 17
def fsK (k K NA NB : Nat) : List Value := .int (nI k) :: .int (iI (ndP K NA)) :: .int (iI (ndQ K NB)) :: (if K = 0 then [.int (nI NA)] else if K = 1 then [.int (nI NA)] else if K = 3 then [.int (bI false)] else if K = 4 then [.int (bI true)] else [])
def nodeC (a k K NA NB : Nat) : Nat × va_E := (a, .inr (ciK K, fsK k K NA NB))
/-- a node's first and second number: of a node before it, or its own -/
def pv (K NA : Nat) (vf : Nat → Nat) : Nat := if 1 < K then vf NA else NA
def qv (K NB : Nat) (vf : Nat → Nat) : Nat := if 2 < K ∧ K ≠ 8 then vf NB else 0
theorem and7 : ∀ x : Nat, x &&& 7 = x % 8 := fun x => Nat.and_two_pow_sub_one_eq_mod x 3
theorem sub7 {p q : Nat} (hp : p < 8) (hq : q < 8) : (nI p - nI q) &&& nI 7 = nI ((p + 8 - q) % 8) := by
  have h : ∀ p q : Fin 8, (nI p.val - nI q.val) &&& nI 7 = nI ((p.val + 8 - q.val) % 8) := by decide
  exact h ⟨p, hp⟩ ⟨q, hq⟩
theorem and1 {p q : Nat} (hp : p ≤ 1) (hq : q ≤ 1) : p &&& q = p * q := by
  have h : ∀ p q : Fin 2, p.val &&& q.val = p.val * q.val := by decide
  exact h ⟨p, by omega⟩ ⟨q, by omega⟩
set_option maxHeartbeats 4000000 in
set_option maxRecDepth 100000 in
theorem c_of_0 (l : Launch) (b : BK) (BC BS sz sl : Nat) (a k NA NB sa va : Nat) (st vf : Nat → Nat) (hA : NA < 8) : Con l b y_Constant_of b_Constant_of 3 (some .int) 0 0 BC BS sz sl [.ref a, .ref sa, .ref va] [[nodeC a k 0 NA NB], [cN b sa 5 st], [cN b va 60 vf]] (S := Unit) (fun r sz' sl' _ => r = some (.int (nI (wk 0 (pv 0 NA vf) (qv 0 NB vf) st))) ∧ sz = sz' ∧ sl = sl') (fun _ => [[nodeC a k 0 NA NB], [cN b sa 5 st], [cN b va 60 vf]]) := by
  refine con_of (L0 := [(0, .ref a), (1, .ref sa), (2, .ref va)]) (by decide) (Nat.le_of_ble_eq_true rfl) rfl ?_
  intro p e R s m args below meth c Q A H lo X hini hw RT
  have X : Ctx p R s m args meth c b_Constant_of 3 "LoopProver$Constant" b BC BS sl 0 0 := X
  have hw : Wd b BC BS sl s A [[cO a 9 [.int (nI k), .int (iI (-1)), .int (iI (-1)), .int (nI NA)]], [cN b sa 5 st], [cN b va 60 vf]] sz sl H lo := hw
  refine r_aldn X (dat D_Constant_of 0 rfl) rfl 0 rfl ?_
  refine r_get X hw f_Constant_9 (dat D_Constant_of 1 rfl) 0 0 rfl rfl rfl ?_
  exact r_iret RT (dat D_Constant_of 2 rfl) () ⟨rfl, rfl, rfl⟩ hw
set_option maxHeartbeats 4000000 in
set_option maxRecDepth 100000 in
theorem c_of_1 (l : Launch) (b : BK) (BC BS sz sl : Nat) (a k NA NB sa va : Nat) (st vf : Nat → Nat) (hA : NA < 3) : Con l b y_Variable_of b_Variable_of 3 (some .int) 0 0 BC BS sz sl [.ref a, .ref sa, .ref va] [[nodeC a k 1 NA NB], [cN b sa 5 st], [cN b va 60 vf]] (S := Unit) (fun r sz' sl' _ => r = some (.int (nI (wk 1 (pv 1 NA vf) (qv 1 NB vf) st))) ∧ sz = sz' ∧ sl = sl') (fun _ => [[nodeC a k 1 NA NB], [cN b sa 5 st], [cN b va 60 vf]]) := by
  refine con_of (L0 := [(0, .ref a), (1, .ref sa), (2, .ref va)]) (by decide) (Nat.le_of_ble_eq_true rfl) rfl ?_
  intro p e R s m args below meth c Q A H lo X hini hw RT
  have X : Ctx p R s m args meth c b_Variable_of 3 "LoopProver$Variable" b BC BS sl 0 0 := X
  have hw : Wd b BC BS sl s A [[cO a 10 [.int (nI k), .int (iI (-1)), .int (iI (-1)), .int (nI NA)]], [cN b sa 5 st], [cN b va 60 vf]] sz sl H lo := hw
  refine r_aldn X (dat D_Variable_of 0 rfl) rfl 1 rfl ?_
  refine r_aldn X (dat D_Variable_of 1 rfl) rfl 0 rfl ?_
  refine r_get X hw f_Variable_9 (dat D_Variable_of 2 rfl) 0 0 rfl rfl rfl ?_
  refine r_ialdN X hw (dat D_Variable_of 3 rfl) 1 0 rfl rfl (by omega) (by omega) ?_
  exact r_iret RT (dat D_Variable_of 4 rfl) () ⟨rfl, rfl, rfl⟩ hw
set_option maxHeartbeats 4000000 in
set_option maxRecDepth 100000 in
theorem c_of_2 (l : Launch) (b : BK) (BC BS sz sl : Nat) (a k NA NB sa va : Nat) (st vf : Nat → Nat) (hA : NA < 60) (hv : vf NA < 8) : Con l b y_Read_of b_Read_of 3 (some .int) 0 0 BC BS sz sl [.ref a, .ref sa, .ref va] [[nodeC a k 2 NA NB], [cN b sa 5 st], [cN b va 60 vf]] (S := Unit) (fun r sz' sl' _ => r = some (.int (nI (wk 2 (pv 2 NA vf) (qv 2 NB vf) st))) ∧ sz = sz' ∧ sl = sl') (fun _ => [[nodeC a k 2 NA NB], [cN b sa 5 st], [cN b va 60 vf]]) := by
  refine con_of (L0 := [(0, .ref a), (1, .ref sa), (2, .ref va)]) (by decide) (Nat.le_of_ble_eq_true rfl) rfl ?_
  intro p e R s m args below meth c Q A H lo X hini hw RT
  have X : Ctx p R s m args meth c b_Read_of 3 "LoopProver$Read" b BC BS sl 0 0 := X
  have hw : Wd b BC BS sl s A [[cO a 11 [.int (nI k), .int (iI (NA : Int)), .int (iI (-1))]], [cN b sa 5 st], [cN b va 60 vf]] sz sl H lo := hw
  refine r_aldn X (dat D_Read_of 0 rfl) rfl 1 rfl ?_
  refine r_iconst (v := nI 3) X (dat D_Read_of 1 rfl) rfl ?_
  refine r_aldn X (dat D_Read_of 2 rfl) rfl 2 rfl ?_
  refine r_aldn X (dat D_Read_of 3 rfl) rfl 0 rfl ?_
  refine r_get X hw f_Read_9 (dat D_Read_of 4 rfl) 0 0 rfl rfl rfl ?_
  refine r_st (st' := [.int (nI NA), .ref va, .int (nI 3), .ref sa]) (rfl) ?_
  refine r_ialdN X hw (dat D_Read_of 5 rfl) 2 0 rfl rfl (by omega) (by omega) ?_
  refine r_iconst (v := nI 2) X (dat D_Read_of 6 rfl) rfl ?_
  refine r_irem (z := nI ((vf NA) % 2)) X (dat D_Read_of 7 rfl) (nI_ne0 (by omega) (by omega)) (pk_rem (by omega) (by omega) (by omega)) ?_
  refine r_iadd (z := nI (3 + ((vf NA) % 2))) X (dat D_Read_of 8 rfl) (nI_add _ _) ?_
  refine r_ialdN X hw (dat D_Read_of 9 rfl) 1 0 rfl rfl (by omega) (by omega) ?_
  exact r_iret RT (dat D_Read_of 10 rfl) () ⟨rfl, rfl, rfl⟩ hw
set_option maxHeartbeats 4000000 in
set_option maxRecDepth 100000 in
theorem c_of_3 (l : Launch) (b : BK) (BC BS sz sl : Nat) (a k NA NB sa va : Nat) (st vf : Nat → Nat) (hA : NA < 60) (hB : NB < 60) (hv : vf NA < 8 ∧ vf NB < 8) : Con l b y_Sum_of b_Sum_of 3 (some .int) 0 0 BC BS sz sl [.ref a, .ref sa, .ref va] [[nodeC a k 3 NA NB], [cN b sa 5 st], [cN b va 60 vf]] (S := Unit) (fun r sz' sl' _ => r = some (.int (nI (wk 3 (pv 3 NA vf) (qv 3 NB vf) st))) ∧ sz = sz' ∧ sl = sl') (fun _ => [[nodeC a k 3 NA NB], [cN b sa 5 st], [cN b va 60 vf]]) := by
  refine con_of (L0 := [(0, .ref a), (1, .ref sa), (2, .ref va)]) (by decide) (Nat.le_of_ble_eq_true rfl) rfl ?_
  intro p e R s m args below meth c Q A H lo X hini hw RT
  have X : Ctx p R s m args meth c b_Sum_of 3 "LoopProver$Sum" b BC BS sl 0 0 := X
  have hw : Wd b BC BS sl s A [[cO a 12 [.int (nI k), .int (iI (NA : Int)), .int (iI (NB : Int)), .int (bI false)]], [cN b sa 5 st], [cN b va 60 vf]] sz sl H lo := hw
  refine r_aldn X (dat D_Sum_of 0 rfl) rfl 0 rfl ?_
  refine r_get X hw f_Sum_9 (dat D_Sum_of 1 rfl) 0 0 rfl rfl rfl ?_
  refine r_ifeq (tgt := 23) X (b0_eq _) (dat D_Sum_of 2 rfl) rfl (fun hc => ?_) (fun hc => ?_)
  · refine r_aldn X (dat D_Sum_of 13 rfl) rfl 2 rfl ?_
    refine r_aldn X (dat D_Sum_of 14 rfl) rfl 0 rfl ?_
    refine r_get X hw f_Sum_15 (dat D_Sum_of 15 rfl) 0 0 rfl rfl rfl ?_
    refine r_st (st' := [.int (nI NA), .ref va]) (rfl) ?_
    refine r_ialdN X hw (dat D_Sum_of 16 rfl) 2 0 rfl rfl (by omega) (by omega) ?_
    refine r_aldn X (dat D_Sum_of 17 rfl) rfl 2 rfl ?_
    refine r_aldn X (dat D_Sum_of 18 rfl) rfl 0 rfl ?_
    refine r_get X hw f_Sum_19 (dat D_Sum_of 19 rfl) 0 0 rfl rfl rfl ?_
    refine r_st (st' := [.int (nI NB), .ref va, .int (nI (vf NA))]) (rfl) ?_
    refine r_ialdN X hw (dat D_Sum_of 20 rfl) 2 0 rfl rfl (by omega) (by omega) ?_
    refine r_iadd (z := nI ((vf NA) + (vf NB))) X (dat D_Sum_of 21 rfl) (nI_add _ _) ?_
    refine r_bipush (v := nI 7) X (dat D_Sum_of 22 rfl) (by decide) ?_
    refine r_iand (z := nI (((vf NA) + (vf NB)) &&& 7)) X (dat D_Sum_of 23 rfl) (nx_and _ _) ?_
    exact r_iret RT (dat D_Sum_of 24 rfl) () ⟨by show some (Value.int (nI ((vf NA + vf NB) &&& 7))) = _; rw [and7]; rfl, rfl, rfl⟩ hw
  · exact absurd rfl hc
set_option maxHeartbeats 4000000 in
set_option maxRecDepth 100000 in
theorem c_of_4 (l : Launch) (b : BK) (BC BS sz sl : Nat) (a k NA NB sa va : Nat) (st vf : Nat → Nat) (hA : NA < 60) (hB : NB < 60) (hv : vf NA < 8 ∧ vf NB < 8) : Con l b y_Sum_of b_Sum_of 3 (some .int) 0 0 BC BS sz sl [.ref a, .ref sa, .ref va] [[nodeC a k 4 NA NB], [cN b sa 5 st], [cN b va 60 vf]] (S := Unit) (fun r sz' sl' _ => r = some (.int (nI (wk 4 (pv 4 NA vf) (qv 4 NB vf) st))) ∧ sz = sz' ∧ sl = sl') (fun _ => [[nodeC a k 4 NA NB], [cN b sa 5 st], [cN b va 60 vf]]) := by
  refine con_of (L0 := [(0, .ref a), (1, .ref sa), (2, .ref va)]) (by decide) (Nat.le_of_ble_eq_true rfl) rfl ?_
  intro p e R s m args below meth c Q A H lo X hini hw RT
  have X : Ctx p R s m args meth c b_Sum_of 3 "LoopProver$Sum" b BC BS sl 0 0 := X
  have hw : Wd b BC BS sl s A [[cO a 12 [.int (nI k), .int (iI (NA : Int)), .int (iI (NB : Int)), .int (bI true)]], [cN b sa 5 st], [cN b va 60 vf]] sz sl H lo := hw
  refine r_aldn X (dat D_Sum_of 0 rfl) rfl 0 rfl ?_
  refine r_get X hw f_Sum_9 (dat D_Sum_of 1 rfl) 0 0 rfl rfl rfl ?_
  refine r_ifeq (tgt := 23) X (b0_eq _) (dat D_Sum_of 2 rfl) rfl (fun hc => ?_) (fun hc => ?_)
  · exact absurd hc (by decide)
  · refine r_aldn X (dat D_Sum_of 3 rfl) rfl 2 rfl ?_
    refine r_aldn X (dat D_Sum_of 4 rfl) rfl 0 rfl ?_
    refine r_get X hw f_Sum_15 (dat D_Sum_of 5 rfl) 0 0 rfl rfl rfl ?_
    refine r_st (st' := [.int (nI NA), .ref va]) (rfl) ?_
    refine r_ialdN X hw (dat D_Sum_of 6 rfl) 2 0 rfl rfl (by omega) (by omega) ?_
    refine r_aldn X (dat D_Sum_of 7 rfl) rfl 2 rfl ?_
    refine r_aldn X (dat D_Sum_of 8 rfl) rfl 0 rfl ?_
    refine r_get X hw f_Sum_19 (dat D_Sum_of 9 rfl) 0 0 rfl rfl rfl ?_
    refine r_st (st' := [.int (nI NB), .ref va, .int (nI (vf NA))]) (rfl) ?_
    refine r_ialdN X hw (dat D_Sum_of 10 rfl) 2 0 rfl rfl (by omega) (by omega) ?_
    refine r_isub X (dat D_Sum_of 11 rfl) rfl ?_
    refine r_goto (tgt := 36) X (dat D_Sum_of 12 rfl) rfl ?_
    refine r_bipush (v := nI 7) X (dat D_Sum_of 22 rfl) (by decide) ?_
    refine r_iand (z := nI ((vf NA + 8 - vf NB) % 8)) X (dat D_Sum_of 23 rfl) (sub7 hv.1 hv.2) ?_
    exact r_iret RT (dat D_Sum_of 24 rfl) () ⟨rfl, rfl, rfl⟩ hw
set_option maxHeartbeats 4000000 in
set_option maxRecDepth 100000 in
theorem c_of_5 (l : Launch) (b : BK) (BC BS sz sl : Nat) (a k NA NB sa va : Nat) (st vf : Nat → Nat) (hA : NA < 60) (hB : NB < 60) (hv : vf NA < 8 ∧ vf NB < 8) : Con l b y_Meet_of b_Meet_of 3 (some .int) 0 0 BC BS sz sl [.ref a, .ref sa, .ref va] [[nodeC a k 5 NA NB], [cN b sa 5 st], [cN b va 60 vf]] (S := Unit) (fun r sz' sl' _ => r = some (.int (nI (wk 5 (pv 5 NA vf) (qv 5 NB vf) st))) ∧ sz = sz' ∧ sl = sl') (fun _ => [[nodeC a k 5 NA NB], [cN b sa 5 st], [cN b va 60 vf]]) := by
  refine con_of (L0 := [(0, .ref a), (1, .ref sa), (2, .ref va)]) (by decide) (Nat.le_of_ble_eq_true rfl) rfl ?_
  intro p e R s m args below meth c Q A H lo X hini hw RT
  have X : Ctx p R s m args meth c b_Meet_of 3 "LoopProver$Meet" b BC BS sl 0 0 := X
  have hw : Wd b BC BS sl s A [[cO a 13 [.int (nI k), .int (iI (NA : Int)), .int (iI (NB : Int))]], [cN b sa 5 st], [cN b va 60 vf]] sz sl H lo := hw
  refine r_aldn X (dat D_Meet_of 0 rfl) rfl 2 rfl ?_
  refine r_aldn X (dat D_Meet_of 1 rfl) rfl 0 rfl ?_
  refine r_get X hw f_Meet_9 (dat D_Meet_of 2 rfl) 0 0 rfl rfl rfl ?_
  refine r_st (st' := [.int (nI NA), .ref va]) (rfl) ?_
  refine r_ialdN X hw (dat D_Meet_of 3 rfl) 2 0 rfl rfl (by omega) (by omega) ?_
  refine r_aldn X (dat D_Meet_of 4 rfl) rfl 2 rfl ?_
  refine r_aldn X (dat D_Meet_of 5 rfl) rfl 0 rfl ?_
  refine r_get X hw f_Meet_15 (dat D_Meet_of 6 rfl) 0 0 rfl rfl rfl ?_
  refine r_st (st' := [.int (nI NB), .ref va, .int (nI (vf NA))]) (rfl) ?_
  refine r_ialdN X hw (dat D_Meet_of 7 rfl) 2 0 rfl rfl (by omega) (by omega) ?_
  refine r_iand (z := nI ((vf NA) &&& (vf NB))) X (dat D_Meet_of 8 rfl) (nx_and _ _) ?_
  exact r_iret RT (dat D_Meet_of 9 rfl) () ⟨rfl, rfl, rfl⟩ hw
set_option maxHeartbeats 4000000 in
set_option maxRecDepth 100000 in
theorem c_of_6 (l : Launch) (b : BK) (BC BS sz sl : Nat) (a k NA NB sa va : Nat) (st vf : Nat → Nat) (hA : NA < 60) (hB : NB < 60) (hv : vf NA < 8 ∧ vf NB < 8) : Con l b y_Below_of b_Below_of 3 (some .int) 0 0 BC BS sz sl [.ref a, .ref sa, .ref va] [[nodeC a k 6 NA NB], [cN b sa 5 st], [cN b va 60 vf]] (S := Unit) (fun r sz' sl' _ => r = some (.int (nI (wk 6 (pv 6 NA vf) (qv 6 NB vf) st))) ∧ sz = sz' ∧ sl = sl') (fun _ => [[nodeC a k 6 NA NB], [cN b sa 5 st], [cN b va 60 vf]]) := by
  refine con_of (L0 := [(0, .ref a), (1, .ref sa), (2, .ref va)]) (by decide) (Nat.le_of_ble_eq_true rfl) rfl ?_
  intro p e R s m args below meth c Q A H lo X hini hw RT
  have X : Ctx p R s m args meth c b_Below_of 3 "LoopProver$Below" b BC BS sl 0 0 := X
  have hw : Wd b BC BS sl s A [[cO a 14 [.int (nI k), .int (iI (NA : Int)), .int (iI (NB : Int))]], [cN b sa 5 st], [cN b va 60 vf]] sz sl H lo := hw
  refine r_aldn X (dat D_Below_of 0 rfl) rfl 2 rfl ?_
  refine r_aldn X (dat D_Below_of 1 rfl) rfl 0 rfl ?_
  refine r_get X hw f_Below_9 (dat D_Below_of 2 rfl) 0 0 rfl rfl rfl ?_
  refine r_st (st' := [.int (nI NA), .ref va]) (rfl) ?_
  refine r_ialdN X hw (dat D_Below_of 3 rfl) 2 0 rfl rfl (by omega) (by omega) ?_
  refine r_aldn X (dat D_Below_of 4 rfl) rfl 2 rfl ?_
  refine r_aldn X (dat D_Below_of 5 rfl) rfl 0 rfl ?_
  refine r_get X hw f_Below_15 (dat D_Below_of 6 rfl) 0 0 rfl rfl rfl ?_
  refine r_st (st' := [.int (nI NB), .ref va, .int (nI (vf NA))]) (rfl) ?_
  refine r_ialdN X hw (dat D_Below_of 7 rfl) 2 0 rfl rfl (by omega) (by omega) ?_
  refine r_icmpge (tgt := 19) X (nI_leI (by omega) (by omega)) (dat D_Below_of 8 rfl) rfl (fun hc => ?_) (fun hc => ?_)
  · refine r_iconst (v := nI 0) X (dat D_Below_of 11 rfl) rfl ?_
    exact r_iret RT (dat D_Below_of 12 rfl) () ⟨by show some (Value.int (nI 0)) = some (.int (nI (if vf NA < vf NB then 1 else 0))); rw [if_neg (by omega)], rfl, rfl⟩ hw
  · refine r_iconst (v := nI 1) X (dat D_Below_of 9 rfl) rfl ?_
    refine r_goto (tgt := 20) X (dat D_Below_of 10 rfl) rfl ?_
    exact r_iret RT (dat D_Below_of 12 rfl) () ⟨by show some (Value.int (nI 1)) = some (.int (nI (if vf NA < vf NB then 1 else 0))); rw [if_pos (by omega)], rfl, rfl⟩ hw
set_option maxHeartbeats 4000000 in
set_option maxRecDepth 100000 in
theorem c_of_7 (l : Launch) (b : BK) (BC BS sz sl : Nat) (a k NA NB sa va : Nat) (st vf : Nat → Nat) (hA : NA < 60) (hB : NB < 60) (hv : vf NA < 8 ∧ vf NB < 8) : Con l b y_Same_of b_Same_of 3 (some .int) 0 0 BC BS sz sl [.ref a, .ref sa, .ref va] [[nodeC a k 7 NA NB], [cN b sa 5 st], [cN b va 60 vf]] (S := Unit) (fun r sz' sl' _ => r = some (.int (nI (wk 7 (pv 7 NA vf) (qv 7 NB vf) st))) ∧ sz = sz' ∧ sl = sl') (fun _ => [[nodeC a k 7 NA NB], [cN b sa 5 st], [cN b va 60 vf]]) := by
  refine con_of (L0 := [(0, .ref a), (1, .ref sa), (2, .ref va)]) (by decide) (Nat.le_of_ble_eq_true rfl) rfl ?_
  intro p e R s m args below meth c Q A H lo X hini hw RT
  have X : Ctx p R s m args meth c b_Same_of 3 "LoopProver$Same" b BC BS sl 0 0 := X
  have hw : Wd b BC BS sl s A [[cO a 15 [.int (nI k), .int (iI (NA : Int)), .int (iI (NB : Int))]], [cN b sa 5 st], [cN b va 60 vf]] sz sl H lo := hw
  refine r_aldn X (dat D_Same_of 0 rfl) rfl 2 rfl ?_
  refine r_aldn X (dat D_Same_of 1 rfl) rfl 0 rfl ?_
  refine r_get X hw f_Same_9 (dat D_Same_of 2 rfl) 0 0 rfl rfl rfl ?_
  refine r_st (st' := [.int (nI NA), .ref va]) (rfl) ?_
  refine r_ialdN X hw (dat D_Same_of 3 rfl) 2 0 rfl rfl (by omega) (by omega) ?_
  refine r_aldn X (dat D_Same_of 4 rfl) rfl 2 rfl ?_
  refine r_aldn X (dat D_Same_of 5 rfl) rfl 0 rfl ?_
  refine r_get X hw f_Same_15 (dat D_Same_of 6 rfl) 0 0 rfl rfl rfl ?_
  refine r_st (st' := [.int (nI NB), .ref va, .int (nI (vf NA))]) (rfl) ?_
  refine r_ialdN X hw (dat D_Same_of 7 rfl) 2 0 rfl rfl (by omega) (by omega) ?_
  refine r_icmpne (tgt := 19) X (nI_eq (by omega) (by omega)) (dat D_Same_of 8 rfl) rfl (fun hc => ?_) (fun hc => ?_)
  · refine r_iconst (v := nI 0) X (dat D_Same_of 11 rfl) rfl ?_
    exact r_iret RT (dat D_Same_of 12 rfl) () ⟨by show some (Value.int (nI 0)) = some (.int (nI (if vf NA = vf NB then 1 else 0))); rw [if_neg (by omega)], rfl, rfl⟩ hw
  · refine r_iconst (v := nI 1) X (dat D_Same_of 9 rfl) rfl ?_
    refine r_goto (tgt := 20) X (dat D_Same_of 10 rfl) rfl ?_
    exact r_iret RT (dat D_Same_of 12 rfl) () ⟨by show some (Value.int (nI 1)) = some (.int (nI (if vf NA = vf NB then 1 else 0))); rw [if_pos (by omega)], rfl, rfl⟩ hw
set_option maxHeartbeats 4000000 in
set_option maxRecDepth 100000 in
theorem c_of_8 (l : Launch) (b : BK) (BC BS sz sl : Nat) (a k NA NB sa va : Nat) (st vf : Nat → Nat) (hA : NA < 60) (hv : vf NA ≤ 1) : Con l b y_Not_of b_Not_of 3 (some .int) 0 0 BC BS sz sl [.ref a, .ref sa, .ref va] [[nodeC a k 8 NA NB], [cN b sa 5 st], [cN b va 60 vf]] (S := Unit) (fun r sz' sl' _ => r = some (.int (nI (wk 8 (pv 8 NA vf) (qv 8 NB vf) st))) ∧ sz = sz' ∧ sl = sl') (fun _ => [[nodeC a k 8 NA NB], [cN b sa 5 st], [cN b va 60 vf]]) := by
  refine con_of (L0 := [(0, .ref a), (1, .ref sa), (2, .ref va)]) (by decide) (Nat.le_of_ble_eq_true rfl) rfl ?_
  intro p e R s m args below meth c Q A H lo X hini hw RT
  have X : Ctx p R s m args meth c b_Not_of 3 "LoopProver$Not" b BC BS sl 0 0 := X
  have hw : Wd b BC BS sl s A [[cO a 16 [.int (nI k), .int (iI (NA : Int)), .int (iI (-1))]], [cN b sa 5 st], [cN b va 60 vf]] sz sl H lo := hw
  refine r_iconst (v := nI 1) X (dat D_Not_of 0 rfl) rfl ?_
  refine r_aldn X (dat D_Not_of 1 rfl) rfl 2 rfl ?_
  refine r_aldn X (dat D_Not_of 2 rfl) rfl 0 rfl ?_
  refine r_get X hw f_Not_9 (dat D_Not_of 3 rfl) 0 0 rfl rfl rfl ?_
  refine r_st (st' := [.int (nI NA), .ref va, .int (nI 1)]) (rfl) ?_
  refine r_ialdN X hw (dat D_Not_of 4 rfl) 2 0 rfl rfl (by omega) (by omega) ?_
  refine r_isub (z := nI (1 - (vf NA))) X (dat D_Not_of 5 rfl) (pk_sub (by omega)) ?_
  exact r_iret RT (dat D_Not_of 6 rfl) () ⟨rfl, rfl, rfl⟩ hw
set_option maxHeartbeats 4000000 in
set_option maxRecDepth 100000 in
theorem c_of_9 (l : Launch) (b : BK) (BC BS sz sl : Nat) (a k NA NB sa va : Nat) (st vf : Nat → Nat) (hA : NA < 60) (hB : NB < 60) (hv : vf NA ≤ 1 ∧ vf NB ≤ 1) : Con l b y_Both_of b_Both_of 3 (some .int) 0 0 BC BS sz sl [.ref a, .ref sa, .ref va] [[nodeC a k 9 NA NB], [cN b sa 5 st], [cN b va 60 vf]] (S := Unit) (fun r sz' sl' _ => r = some (.int (nI (wk 9 (pv 9 NA vf) (qv 9 NB vf) st))) ∧ sz = sz' ∧ sl = sl') (fun _ => [[nodeC a k 9 NA NB], [cN b sa 5 st], [cN b va 60 vf]]) := by
  refine con_of (L0 := [(0, .ref a), (1, .ref sa), (2, .ref va)]) (by decide) (Nat.le_of_ble_eq_true rfl) rfl ?_
  intro p e R s m args below meth c Q A H lo X hini hw RT
  have X : Ctx p R s m args meth c b_Both_of 3 "LoopProver$Both" b BC BS sl 0 0 := X
  have hw : Wd b BC BS sl s A [[cO a 17 [.int (nI k), .int (iI (NA : Int)), .int (iI (NB : Int))]], [cN b sa 5 st], [cN b va 60 vf]] sz sl H lo := hw
  refine r_aldn X (dat D_Both_of 0 rfl) rfl 2 rfl ?_
  refine r_aldn X (dat D_Both_of 1 rfl) rfl 0 rfl ?_
  refine r_get X hw f_Both_9 (dat D_Both_of 2 rfl) 0 0 rfl rfl rfl ?_
  refine r_st (st' := [.int (nI NA), .ref va]) (rfl) ?_
  refine r_ialdN X hw (dat D_Both_of 3 rfl) 2 0 rfl rfl (by omega) (by omega) ?_
  refine r_aldn X (dat D_Both_of 4 rfl) rfl 2 rfl ?_
  refine r_aldn X (dat D_Both_of 5 rfl) rfl 0 rfl ?_
  refine r_get X hw f_Both_15 (dat D_Both_of 6 rfl) 0 0 rfl rfl rfl ?_
  refine r_st (st' := [.int (nI NB), .ref va, .int (nI (vf NA))]) (rfl) ?_
  refine r_ialdN X hw (dat D_Both_of 7 rfl) 2 0 rfl rfl (by omega) (by omega) ?_
  refine r_iand (z := nI ((vf NA) &&& (vf NB))) X (dat D_Both_of 8 rfl) (nx_and _ _) ?_
  exact r_iret RT (dat D_Both_of 9 rfl) () ⟨by show some (Value.int (nI (vf NA &&& vf NB))) = _; rw [and1 hv.1 hv.2]; rfl, rfl, rfl⟩ hw
