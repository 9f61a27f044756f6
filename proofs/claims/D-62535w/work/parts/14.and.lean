/-! CIRCUIT, part 4: gates -/
theorem and_min {al : Nat → Bool} {C : CT} (a ic : Nat) : (VL C al (min a ic) && VL C al (max a ic)) = (VL C al a && VL C al ic) := by
  by_cases h : a ≤ ic
  · rw [Nat.min_eq_left h, Nat.max_eq_right h]
  · rw [Nat.min_eq_right (by omega), Nat.max_eq_left (by omega), Bool.and_comm]
/-- the state between the new gate's number and its clauses -/
def GrowI (B1 B2 : Nat) (C D : CT) (sz sl : Nat) : Prop := cLen D ∧ cBud B1 B2 D sz sl ∧ cV D = cV C + 1 ∧ cU D = cU C ∧ cK D = cK C ∧ (∀ j, j < cU C → fL D j = fL C j ∧ fC D j = fC C j) ∧ (∀ k, k ≤ cK C → fS D k = fS C k) ∧ (∀ x, x < cV C → fF D x = fF C x ∧ fG D x = fG C x ∧ fH D x = fH C x) ∧ (∀ j, fD D j = fD C j) ∧ cU D ≤ lL D ∧ cK D + 1 ≤ lS D ∧ Occ (cU D) D ∧ cV C ≤ lF D
def setV (C : CT) (v : Nat) : CT := (C.1, C.2.1, C.2.2.1, C.2.2.2.1, C.2.2.2.2.1, C.2.2.2.2.2.1, C.2.2.2.2.2.2.1, C.2.2.2.2.2.2.2.1, C.2.2.2.2.2.2.2.2.1, C.2.2.2.2.2.2.2.2.2.1, C.2.2.2.2.2.2.2.2.2.2.1, v)
def setG (C : CT) (g x y hh : Nat) : CT := (C.1, C.2.1, C.2.2.1, C.2.2.2.1, C.2.2.2.2.1, (C.2.2.2.2.2.1.1, C.2.2.2.2.2.1.2.1, va_up C.2.2.2.2.2.1.2.2 g x), (C.2.2.2.2.2.2.1.1, C.2.2.2.2.2.2.1.2.1, va_up C.2.2.2.2.2.2.1.2.2 g y), (C.2.2.2.2.2.2.2.1.1, C.2.2.2.2.2.2.2.1.2.1, va_up C.2.2.2.2.2.2.2.1.2.2 g (C.2.2.2.2.2.2.2.2.1.2.2 hh)), (C.2.2.2.2.2.2.2.2.1.1, C.2.2.2.2.2.2.2.2.1.2.1, va_up C.2.2.2.2.2.2.2.2.1.2.2 hh g), C.2.2.2.2.2.2.2.2.2.1, C.2.2.2.2.2.2.2.2.2.2.1, C.2.2.2.2.2.2.2.2.2.2.2)
theorem grow_start {B1 B2 : Nat} {C : CT} {sz sl : Nat} (h : GateOK C) (hb : cBud B1 B2 C sz sl) : GrowI B1 B2 C (setV C (cV C + 1)) sz sl := by
  obtain ⟨h1, h2, h3, h4, h5, h6, h7, h8, h9, h10, h11, h12, h13⟩ := h
  exact ⟨h1, hb, rfl, rfl, rfl, fun _ _ => ⟨rfl, rfl⟩, fun _ _ => rfl, fun _ _ => ⟨rfl, rfl, rfl⟩, fun _ => rfl, h6, h7, h13, h3⟩
theorem grow_step {B1 B2 : Nat} {C D D2 : CT} {sz sl sz' sl' : Nat} (h : GrowI B1 B2 C D sz sl) (m1 : cLen D2) (m2 : cBud B1 B2 D2 sz' sl') (m3 : lF D2 = 2 * lF D) (m4 : ∀ j, j < lF D → fF D2 j = fF D j ∧ fG D2 j = fG D j ∧ fH D2 j = fH D j) (m5 : fD D2 = fD D) (m6 : cV D2 = cV D) (m7 : cU D2 = cU D) (m8 : cK D2 = cK D) (m9 : fL D2 = fL D) (m10 : fC D2 = fC D) (m11 : fN D2 = fN D) (m12 : fS D2 = fS D) (m13 : lL D2 = lL D) (m14 : lS D2 = lS D) (m15 : ∀ a, fP D2 a = fP D a) : GrowI B1 B2 C D2 sz' sl' := by
  obtain ⟨k1, k2, k3, k4, k5, k6, k7, k8, k9, k10, k11, k12, k13⟩ := h
  refine ⟨m1, m2, by omega, by omega, by omega, fun j hj => by rw [m9, m10]; exact k6 j hj, fun k hk => by rw [m12]; exact k7 k hk, fun x hx => ?_, fun j => by rw [m5]; exact k9 j, by omega, by omega, by rw [m7]; exact Occ_same k12 m9 m11 m15, by omega⟩
  have a1 := m4 x (by omega)
  have a2 := k8 x hx
  exact ⟨a1.1.trans a2.1, a1.2.1.trans a2.2.1, a1.2.2.trans a2.2.2⟩
/-- the new gate is written down; its clauses follow -/
theorem gate_set {B1 B2 : Nat} {C D : CT} {sz sl g x y hh : Nat} (h : GrowI B1 B2 C D sz sl) (hg : cV C = g) (hlt : g < lF D) : cLen (setG D g x y hh) ∧ cBud B1 B2 (setG D g x y hh) sz sl ∧ Occ (cU (setG D g x y hh)) (setG D g x y hh) ∧ cV (setG D g x y hh) = g + 1 ∧ cU (setG D g x y hh) = cU C ∧ cK (setG D g x y hh) = cK C ∧ (∀ j, j < cU C → fL (setG D g x y hh) j = fL C j ∧ fC (setG D g x y hh) j = fC C j) ∧ (∀ k, k ≤ cK C → fS (setG D g x y hh) k = fS C k) ∧ (∀ z, 16 ≤ z → z < g → fF (setG D g x y hh) z = fF C z ∧ fG (setG D g x y hh) z = fG C z ∧ fH (setG D g x y hh) z = fH C z) ∧ (fF (setG D g x y hh) g = x ∧ fG (setG D g x y hh) g = y ∧ fH (setG D g x y hh) g = fD C hh) ∧ (∀ j, j < 257 → fD (setG D g x y hh) j = if j = hh then g else fD C j) ∧ g + 1 ≤ lF (setG D g x y hh) ∧ cU (setG D g x y hh) ≤ lL (setG D g x y hh) ∧ cK (setG D g x y hh) + 1 ≤ lS (setG D g x y hh) := by
  obtain ⟨k1, k2, k3, k4, k5, k6, k7, k8, k9, k10, k11, k12, k13⟩ := h
  refine ⟨k1, k2, k12, ?_, k4, k5, k6, k7, fun z h1 h2 => ?_, ⟨up_s, up_s, up_s.trans (k9 hh)⟩, fun j hj => ?_, hlt, k10, k11⟩
  · exact k3.trans (by rw [hg])
  · have a := k8 z (by omega)
    exact ⟨(up_n (by omega)).trans a.1, (up_n (by omega)).trans a.2.1, (up_n (by omega)).trans a.2.2⟩
  · by_cases e : j = hh
    · rw [if_pos e, e]
      exact up_s
    · rw [if_neg e]
      exact (up_n e).trans (k9 j)
set_option maxHeartbeats 4000000 in
set_option maxRecDepth 100000 in
theorem c_and (l : Launch) (b : BK) (BC BS sz sl : Nat) (h : Nat) (C : CT) (a ic : Nat) (P1 P2 : (Nat → Bool) → Bool) (B1 B2 : Nat) (hB1 : B1 ≤ BS) (hB2 : B2 ≤ BC) (hok : GateOK C) (hb : cBud B1 B2 C sz sl) (hv : cV C < 65536) (ha : Sem C a P1) (hc : Sem C ic P2) : Con l b y_Circuit_and b_Circuit_and 7 (some .int) 5 150 BC BS sz sl [.ref h, .int (nI a), .int (nI ic)] [circW b h C] (S := CT) (fun r sz' sl' C' => ∃ x, r = some (.int (nI x)) ∧ GateOK C' ∧ cBud B1 B2 C' sz' sl' ∧ Ext C C' ∧ cV C' ≤ cV C + 1 ∧ Sem C' x (fun al => P1 al && P2 al)) (fun C' => [circW b h C']) := by
  have hok0 := hok
  obtain ⟨h1, h2, h3, h4, h5, h6, h7, h8, h9, h10, h11, h12, h13⟩ := hok
  have q9 := h1.2.2.2.2.2.2.2.2.1.le
  have hal := ha.1
  have hcl := hc.1
  obtain ⟨pp, hp0⟩ : ∃ z, min a ic = z := ⟨_, rfl⟩
  obtain ⟨qq, hq0'⟩ : ∃ z, max a ic = z := ⟨_, rfl⟩
  have hpq : pp ≤ qq := by omega
  have hq2 : qq < 2 * cV C := by omega
  have hsem : ∀ C', Ext C C' → ∀ al, (VL C' al pp && VL C' al qq) = (P1 al && P2 al) := by
    intro C' hx al
    rw [← hp0, ← hq0', and_min, hx.vl al hal, hx.vl al hcl, ha.2 al, hc.2 al]
  have hh7 : (31 * pp + qq) % 257 < 257 := Nat.mod_lt _ (by decide)
  generalize hhh : (31 * pp + qq) % 257 = hh at hh7
  clear ha hc h13 h9 h10
  refine con_of (L0 := [(0, .ref h), (1, .int (nI a)), (2, .int (nI ic))]) (by decide) (Nat.le_of_ble_eq_true rfl) rfl ?_
  intro p e R s m args below meth c Q A H lo X hini hw RT
  have X : Ctx p R s m args meth c b_Circuit_and 7 "LoopProver$Circuit" b BC BS sl 5 150 := X
  have hw : Wd b BC BS sl s A [circW b h C] sz sl H lo := hw
  refine r_ildn X (dat D_Circuit_and 0 rfl) rfl 1 rfl ?_
  refine r_ildn X (dat D_Circuit_and 1 rfl) rfl 2 rfl ?_
  refine r_min X hw m_Circuit_76 (dat D_Circuit_and 2 rfl) (Nat.le_of_ble_eq_true rfl) (by decide) (by omega) (by omega) ?_
  rw [hp0]
  refine r_istn (L' := [(3, .int (nI pp)), (0, .ref h), (1, .int (nI a)), (2, .int (nI ic))]) X (dat D_Circuit_and 3 rfl) rfl (by decide) rfl ?_
  refine r_ildn X (dat D_Circuit_and 4 rfl) rfl 2 rfl ?_
  refine r_ildn X (dat D_Circuit_and 5 rfl) rfl 3 rfl ?_
  refine r_max X hw m_Circuit_82 (dat D_Circuit_and 6 rfl) (Nat.le_of_ble_eq_true rfl) (by decide) (by omega) (by omega) ?_
  rw [hq0']
  refine r_ist (L' := [(4, .int (nI qq)), (3, .int (nI pp)), (0, .ref h), (1, .int (nI a)), (2, .int (nI ic))]) X (dat D_Circuit_and 7 rfl) (by decide) rfl ?_
  refine r_ildn X (dat D_Circuit_and 8 rfl) rfl 1 rfl ?_
  refine r_iconst (v := nI 1) X (dat D_Circuit_and 9 rfl) rfl ?_
  have JF : ∀  (H : Heap) (lo : List Loc), (pp = 1 ∨ qq = 1 ∨ pp = ng qq) → Wd b BC BS sl s A [circW b h C] sz sl H lo → V p l e R s m args below meth c Q 7 H lo 32 [(4, .int (nI qq)), (3, .int (nI pp)), (0, .ref h), (1, .int (nI a)), (2, .int (nI ic))] [] := by
    intro  H lo hf hw
    refine r_iconst (v := nI 1) X (dat D_Circuit_and 19 rfl) rfl ?_
    refine r_iret RT (dat D_Circuit_and 20 rfl) C ⟨1, rfl, hok0, hb, Ext.refl C, by omega, (Sem.ff h2).cong (fun al => ?_)⟩ hw
    have hz := hsem C (Ext.refl C) al
    rw [← hz]
    have f1 : VL C al 1 = false := (Sem.ff h2).2 al
    rcases hf with rfl | rfl | rfl
    · rw [f1, Bool.false_and]
    · rw [f1, Bool.and_false]
    · unfold VL
      rw [lv_ng]
      cases lv (vv (fF C) (fG C) al) qq <;> rfl
  have JQ : ∀  (H : Heap) (lo : List Loc), (pp = 0 ∨ pp = qq) → Wd b BC BS sl s A [circW b h C] sz sl H lo → V p l e R s m args below meth c Q 7 H lo 44 [(4, .int (nI qq)), (3, .int (nI pp)), (0, .ref h), (1, .int (nI a)), (2, .int (nI ic))] [] := by
    intro  H lo hf hw
    refine r_ild X (dat D_Circuit_and 26 rfl) 0 rfl ?_
    refine r_iret RT (dat D_Circuit_and 27 rfl) C ⟨qq, rfl, hok0, hb, Ext.refl C, by omega, hq2, fun al => ?_⟩ hw
    show VL C al qq = (P1 al && P2 al)
    have hz := hsem C (Ext.refl C) al
    rw [← hz]
    rcases hf with rfl | rfl
    · rw [(Sem.tt h2).2 al, Bool.true_and]
    · rw [Bool.and_self]
  have hq0 : qq < 2 ^ 18 := by omega
  have JG : ∀ (NN : Nat) (D : CT) (sz' sl' : Nat) (H : Heap) (lo : List Loc), 65536 - lF D < NN → (2 ≤ pp ∧ pp < qq ∧ pp / 2 ≠ qq / 2) → (GrowI B1 B2 C D sz' sl') → Wd b BC BS sl s A [circW b h D] sz' sl' H lo → V p l e R s m args below meth c Q 7 H lo 127 [(6, .int (nI (cV C))), (5, .int (nI hh)), (4, .int (nI qq)), (3, .int (nI pp)), (0, .ref h), (1, .int (nI a)), (2, .int (nI ic))] [] := by
    intro NN
    induction NN with
    | zero =>
      intro D sz' sl' H lo hNN
      exact absurd hNN (by omega)
    | succ NN ih =>
      intro D sz' sl' H lo hNN hf hI hw
      have k1 := hI.1
      have k2 := hI.2.1
      have e1 := k1.1
      have e2 := k1.2.1
      have e3 := k1.2.2.1
      have e4 := k1.2.2.2.1
      have e5 := k1.2.2.2.2.1
      have q5 := k1.2.2.2.2.2.2.2.2.1.le
      have k13 := hI.2.2.2.2.2.2.2.2.2.2.2.2
      have hw : Wd b BC BS sl s A [[cO h 2 [.ref D.1.1, .ref D.2.1.1, .int (nI (cU D)), .int (nI (cK D)), .int (nI (cV D)), .ref D.2.2.1.1, .ref D.2.2.2.1.1, .ref D.2.2.2.2.1.1, .ref D.2.2.2.2.2.1.1, .ref D.2.2.2.2.2.2.1.1, .ref D.2.2.2.2.2.2.2.1.1, .ref D.2.2.2.2.2.2.2.2.1.1]], [cN b D.1.1 (lL D) (fL D)], [cN b D.2.1.1 (lS D) (fS D)], [cN b D.2.2.1.1 D.2.2.1.2.1 (fC D)], [cN b D.2.2.2.1.1 D.2.2.2.1.2.1 (fN D)], [cN b D.2.2.2.2.1.1 (lP D) D.2.2.2.2.1.2.2], [cN b D.2.2.2.2.2.1.1 (lF D) (fF D)], [cN b D.2.2.2.2.2.2.1.1 D.2.2.2.2.2.2.1.2.1 (fG D)], [cN b D.2.2.2.2.2.2.2.1.1 D.2.2.2.2.2.2.2.1.2.1 (fH D)], [cN b D.2.2.2.2.2.2.2.2.1.1 D.2.2.2.2.2.2.2.2.1.2.1 (fD D)]] sz' sl' H lo := hw.re rfl
      refine r_ild X (dat D_Circuit_and 73 rfl) 0 rfl ?_
      refine r_aldn X (dat D_Circuit_and 74 rfl) rfl 4 rfl ?_
      refine r_get X hw f_Circuit_27 (dat D_Circuit_and 75 rfl) 0 0 rfl rfl rfl ?_
      refine r_alen X hw (dat D_Circuit_and 76 rfl) 6 0 0 rfl rfl rfl ?_
      refine r_icmplt (tgt := 144) X (nI_ltI (by omega) (by omega)) (dat D_Circuit_and 77 rfl) rfl (fun hc2 => ?_) (fun hc2 => ?_)
      · refine r_aldn X (dat D_Circuit_and 81 rfl) rfl 4 rfl ?_
        refine r_get X hw f_Circuit_27 (dat D_Circuit_and 82 rfl) 0 0 rfl rfl rfl ?_
        refine r_ild X (dat D_Circuit_and 83 rfl) 0 rfl ?_
        refine r_ildn X (dat D_Circuit_and 84 rfl) rfl 3 rfl ?_
        refine r_iastN (Ws' := [[cO h 2 [.ref D.1.1, .ref D.2.1.1, .int (nI (cU D)), .int (nI (cK D)), .int (nI (cV D)), .ref D.2.2.1.1, .ref D.2.2.2.1.1, .ref D.2.2.2.2.1.1, .ref D.2.2.2.2.2.1.1, .ref D.2.2.2.2.2.2.1.1, .ref D.2.2.2.2.2.2.2.1.1, .ref D.2.2.2.2.2.2.2.2.1.1]], [cN b D.1.1 (lL D) (fL D)], [cN b D.2.1.1 (lS D) (fS D)], [cN b D.2.2.1.1 D.2.2.1.2.1 (fC D)], [cN b D.2.2.2.1.1 D.2.2.2.1.2.1 (fN D)], [cN b D.2.2.2.2.1.1 (lP D) D.2.2.2.2.1.2.2], [cN b D.2.2.2.2.2.1.1 (lF D) (va_up (fF D) (cV C) pp)], [cN b D.2.2.2.2.2.2.1.1 D.2.2.2.2.2.2.1.2.1 (fG D)], [cN b D.2.2.2.2.2.2.2.1.1 D.2.2.2.2.2.2.2.1.2.1 (fH D)], [cN b D.2.2.2.2.2.2.2.2.1.1 D.2.2.2.2.2.2.2.2.1.2.1 (fD D)]]) X hw (dat D_Circuit_and 85 rfl) 6 0 rfl rfl (by omega) (by omega) rfl (fun H lo hw => ?_)
        refine r_aldn X (dat D_Circuit_and 86 rfl) rfl 4 rfl ?_
        refine r_get X hw f_Circuit_30 (dat D_Circuit_and 87 rfl) 0 0 rfl rfl rfl ?_
        refine r_ild X (dat D_Circuit_and 88 rfl) 0 rfl ?_
        refine r_ild X (dat D_Circuit_and 89 rfl) 2 rfl ?_
        refine r_iastN (Ws' := [[cO h 2 [.ref D.1.1, .ref D.2.1.1, .int (nI (cU D)), .int (nI (cK D)), .int (nI (cV D)), .ref D.2.2.1.1, .ref D.2.2.2.1.1, .ref D.2.2.2.2.1.1, .ref D.2.2.2.2.2.1.1, .ref D.2.2.2.2.2.2.1.1, .ref D.2.2.2.2.2.2.2.1.1, .ref D.2.2.2.2.2.2.2.2.1.1]], [cN b D.1.1 (lL D) (fL D)], [cN b D.2.1.1 (lS D) (fS D)], [cN b D.2.2.1.1 D.2.2.1.2.1 (fC D)], [cN b D.2.2.2.1.1 D.2.2.2.1.2.1 (fN D)], [cN b D.2.2.2.2.1.1 (lP D) D.2.2.2.2.1.2.2], [cN b D.2.2.2.2.2.1.1 (lF D) (va_up (fF D) (cV C) pp)], [cN b D.2.2.2.2.2.2.1.1 D.2.2.2.2.2.2.1.2.1 (va_up (fG D) (cV C) qq)], [cN b D.2.2.2.2.2.2.2.1.1 D.2.2.2.2.2.2.2.1.2.1 (fH D)], [cN b D.2.2.2.2.2.2.2.2.1.1 D.2.2.2.2.2.2.2.2.1.2.1 (fD D)]]) X hw (dat D_Circuit_and 90 rfl) 7 0 rfl rfl (by omega) (by omega) rfl (fun H lo hw => ?_)
        refine r_aldn X (dat D_Circuit_and 91 rfl) rfl 4 rfl ?_
        refine r_get X hw f_Circuit_33 (dat D_Circuit_and 92 rfl) 0 0 rfl rfl rfl ?_
        refine r_ild X (dat D_Circuit_and 93 rfl) 0 rfl ?_
        refine r_aldn X (dat D_Circuit_and 94 rfl) rfl 4 rfl ?_
        refine r_get X hw f_Circuit_36 (dat D_Circuit_and 95 rfl) 0 0 rfl rfl rfl ?_
        refine r_ild X (dat D_Circuit_and 96 rfl) 1 rfl ?_
        refine r_ialdN X hw (dat D_Circuit_and 97 rfl) 9 0 rfl rfl (by omega) (by omega) ?_
        refine r_iastN (Ws' := [[cO h 2 [.ref D.1.1, .ref D.2.1.1, .int (nI (cU D)), .int (nI (cK D)), .int (nI (cV D)), .ref D.2.2.1.1, .ref D.2.2.2.1.1, .ref D.2.2.2.2.1.1, .ref D.2.2.2.2.2.1.1, .ref D.2.2.2.2.2.2.1.1, .ref D.2.2.2.2.2.2.2.1.1, .ref D.2.2.2.2.2.2.2.2.1.1]], [cN b D.1.1 (lL D) (fL D)], [cN b D.2.1.1 (lS D) (fS D)], [cN b D.2.2.1.1 D.2.2.1.2.1 (fC D)], [cN b D.2.2.2.1.1 D.2.2.2.1.2.1 (fN D)], [cN b D.2.2.2.2.1.1 (lP D) D.2.2.2.2.1.2.2], [cN b D.2.2.2.2.2.1.1 (lF D) (va_up (fF D) (cV C) pp)], [cN b D.2.2.2.2.2.2.1.1 D.2.2.2.2.2.2.1.2.1 (va_up (fG D) (cV C) qq)], [cN b D.2.2.2.2.2.2.2.1.1 D.2.2.2.2.2.2.2.1.2.1 (va_up (fH D) (cV C) ((fD D) hh))], [cN b D.2.2.2.2.2.2.2.2.1.1 D.2.2.2.2.2.2.2.2.1.2.1 (fD D)]]) X hw (dat D_Circuit_and 98 rfl) 8 0 rfl rfl (by omega) (by omega) rfl (fun H lo hw => ?_)
        refine r_aldn X (dat D_Circuit_and 99 rfl) rfl 4 rfl ?_
        refine r_get X hw f_Circuit_36 (dat D_Circuit_and 100 rfl) 0 0 rfl rfl rfl ?_
        refine r_ild X (dat D_Circuit_and 101 rfl) 1 rfl ?_
        refine r_ild X (dat D_Circuit_and 102 rfl) 0 rfl ?_
        refine r_iastN (Ws' := [[cO h 2 [.ref D.1.1, .ref D.2.1.1, .int (nI (cU D)), .int (nI (cK D)), .int (nI (cV D)), .ref D.2.2.1.1, .ref D.2.2.2.1.1, .ref D.2.2.2.2.1.1, .ref D.2.2.2.2.2.1.1, .ref D.2.2.2.2.2.2.1.1, .ref D.2.2.2.2.2.2.2.1.1, .ref D.2.2.2.2.2.2.2.2.1.1]], [cN b D.1.1 (lL D) (fL D)], [cN b D.2.1.1 (lS D) (fS D)], [cN b D.2.2.1.1 D.2.2.1.2.1 (fC D)], [cN b D.2.2.2.1.1 D.2.2.2.1.2.1 (fN D)], [cN b D.2.2.2.2.1.1 (lP D) D.2.2.2.2.1.2.2], [cN b D.2.2.2.2.2.1.1 (lF D) (va_up (fF D) (cV C) pp)], [cN b D.2.2.2.2.2.2.1.1 D.2.2.2.2.2.2.1.2.1 (va_up (fG D) (cV C) qq)], [cN b D.2.2.2.2.2.2.2.1.1 D.2.2.2.2.2.2.2.1.2.1 (va_up (fH D) (cV C) ((fD D) hh))], [cN b D.2.2.2.2.2.2.2.2.1.1 D.2.2.2.2.2.2.2.2.1.2.1 (va_up (fD D) hh (cV C))]]) X hw (dat D_Circuit_and 103 rfl) 9 0 rfl rfl (by omega) (by omega) rfl (fun H lo hw => ?_)
        have hw : Wd b BC BS sl s A [circW b h (setG D (cV C) pp qq hh)] sz' sl' H lo := hw.re rfl
        obtain ⟨s_l, sb, so, x1, x2, x3, x4, x5, x6, x7, x8, x11, su, sk⟩ := gate_set (x := pp) (y := qq) (hh := hh) hI rfl hc2
        generalize setG D (cV C) pp qq hh = E1 at hw s_l sb so x1 x2 x3 x4 x5 x6 x7 x8 x11 su sk
        clear hI k1 k2 e1 e2 e3 e4 e5 ih k13 q5 hNN
        refine r_aldn X (dat D_Circuit_and 104 rfl) rfl 4 rfl ?_
        refine r_iconst (v := nI 2) X (dat D_Circuit_and 105 rfl) rfl ?_
        refine r_ild X (dat D_Circuit_and 106 rfl) 0 rfl ?_
        refine r_imul (z := nI (2 * (cV C))) X (dat D_Circuit_and 107 rfl) (pk_mul _ _) ?_
        refine r_iconst (v := nI 1) X (dat D_Circuit_and 108 rfl) rfl ?_
        refine r_iadd (z := nI ((2 * (cV C)) + 1)) X (dat D_Circuit_and 109 rfl) (nI_add _ _) ?_
        refine r_ildn X (dat D_Circuit_and 110 rfl) rfl 3 rfl ?_
        refine r_iconst (v := iI (-1)) X (dat D_Circuit_and 111 rfl) rfl ?_
        refine r_st (st' := [.int (iI (-1)), .int (iI (pp : Int)), .int (nI ((2 * (cV C)) + 1)), .ref h]) (rfl) ?_
        refine r_callV (NW := 1) (As := [.int (nI ((2 * (cV C)) + 1)), .int (iI (pp : Int)), .int (iI (-1))]) (st := []) X hw m_Circuit_49 (c_add l b BC BS _ _ h E1 (2 * cV C + 1) (pp : Int) (-1) [2 * cV C + 1, pp] (by simp) B1 B2 hB1 hB2 s_l sb su (by omega) sk (by omega) (by omega) (by omega) (by omega) so) (dat D_Circuit_and 112 rfl) [0] [] rfl (by decide +kernel) rfl rfl (hw.recv X 0 0 rfl (circ0 b h E1).choose_spec k_Circuit) rfl rfl (Nat.le_of_ble_eq_true rfl) ⟨by decide, by decide⟩ (fun r E2 sz_1 sl_1 H lo hp hw => ?_)
        obtain ⟨rfl, t_l, tb, tr, tu, tk, to⟩ := hp
        refine r_st (st' := []) rfl ?_
        have hw : Wd b BC BS sl s A [circW b h E2] sz_1 sl_1 H lo := hw
        have tr1 := tr.1
        have tr2 := tr.2.1
        simp only [List.length_cons, List.length_nil] at tr1
        refine r_aldn X (dat D_Circuit_and 113 rfl) rfl 4 rfl ?_
        refine r_iconst (v := nI 2) X (dat D_Circuit_and 114 rfl) rfl ?_
        refine r_ild X (dat D_Circuit_and 115 rfl) 0 rfl ?_
        refine r_imul (z := nI (2 * (cV C))) X (dat D_Circuit_and 116 rfl) (pk_mul _ _) ?_
        refine r_iconst (v := nI 1) X (dat D_Circuit_and 117 rfl) rfl ?_
        refine r_iadd (z := nI ((2 * (cV C)) + 1)) X (dat D_Circuit_and 118 rfl) (nI_add _ _) ?_
        refine r_ild X (dat D_Circuit_and 119 rfl) 2 rfl ?_
        refine r_iconst (v := iI (-1)) X (dat D_Circuit_and 120 rfl) rfl ?_
        refine r_st (st' := [.int (iI (-1)), .int (iI (qq : Int)), .int (nI ((2 * (cV C)) + 1)), .ref h]) (rfl) ?_
        refine r_callV (NW := 1) (As := [.int (nI ((2 * (cV C)) + 1)), .int (iI (qq : Int)), .int (iI (-1))]) (st := []) X hw m_Circuit_49 (c_add l b BC BS _ _ h E2 (2 * cV C + 1) (qq : Int) (-1) [2 * cV C + 1, qq] (by simp) B1 B2 hB1 hB2 t_l tb tu (by omega) tk (by omega) (by omega) (by omega) (by omega) to) (dat D_Circuit_and 121 rfl) [0] [] rfl (by decide +kernel) rfl rfl (hw.recv X 0 0 rfl (circ0 b h E2).choose_spec k_Circuit) rfl rfl (Nat.le_of_ble_eq_true rfl) ⟨by decide, by decide⟩ (fun r E3 sz_2 sl_2 H lo hp hw => ?_)
        obtain ⟨rfl, u_l, ub, ur, uu, uk, uo⟩ := hp
        refine r_st (st' := []) rfl ?_
        have hw : Wd b BC BS sl s A [circW b h E3] sz_2 sl_2 H lo := hw
        have ur1 := ur.1
        have ur2 := ur.2.1
        simp only [List.length_cons, List.length_nil] at ur1
        refine r_aldn X (dat D_Circuit_and 122 rfl) rfl 4 rfl ?_
        refine r_iconst (v := nI 2) X (dat D_Circuit_and 123 rfl) rfl ?_
        refine r_ild X (dat D_Circuit_and 124 rfl) 0 rfl ?_
        refine r_imul (z := nI (2 * (cV C))) X (dat D_Circuit_and 125 rfl) (pk_mul _ _) ?_
        refine r_ildn X (dat D_Circuit_and 126 rfl) rfl 3 rfl ?_
        refine r_iconst (v := nI 1) X (dat D_Circuit_and 127 rfl) rfl ?_
        refine r_ixor (z := nI (ng pp)) X (dat D_Circuit_and 128 rfl) (ngE _) ?_
        refine r_ild X (dat D_Circuit_and 129 rfl) 2 rfl ?_
        refine r_iconst (v := nI 1) X (dat D_Circuit_and 130 rfl) rfl ?_
        refine r_ixor (z := nI (ng qq)) X (dat D_Circuit_and 131 rfl) (ngE _) ?_
        have np := ng_lt (show pp < 2 * cV C by omega)
        have nq := ng_lt (show qq < 2 * cV C by omega)
        refine r_st (st' := [.int (iI (ng qq : Nat)), .int (nI (ng pp)), .int (nI (2 * (cV C))), .ref h]) (rfl) ?_
        refine r_st (st' := [.int (iI (ng qq : Nat)), .int (iI (ng pp : Nat)), .int (nI (2 * (cV C))), .ref h]) (rfl) ?_
        refine r_callV (NW := 1) (As := [.int (nI (2 * (cV C))), .int (iI (ng pp : Nat)), .int (iI (ng qq : Nat))]) (st := []) X hw m_Circuit_49 (c_add l b BC BS _ _ h E3 (2 * cV C) (ng pp : Nat) (ng qq : Nat) [2 * cV C, ng pp, ng qq] (by simp) B1 B2 hB1 hB2 u_l ub uu (by omega) uk (by omega) (by omega) (by omega) (by omega) uo) (dat D_Circuit_and 132 rfl) [0] [] rfl (by decide +kernel) rfl rfl (hw.recv X 0 0 rfl (circ0 b h E3).choose_spec k_Circuit) rfl rfl (Nat.le_of_ble_eq_true rfl) ⟨by decide, by decide⟩ (fun r E4 sz_3 sl_3 H lo hp hw => ?_)
        obtain ⟨rfl, v_l, vb, vr, vu, vk, vo⟩ := hp
        refine r_st (st' := []) rfl ?_
        have hw : Wd b BC BS sl s A [circW b h E4] sz_3 sl_3 H lo := hw
        have vr1 := vr.1
        have vr2 := vr.2.1
        simp only [List.length_cons, List.length_nil] at vr1
        refine r_iconst (v := nI 2) X (dat D_Circuit_and 133 rfl) rfl ?_
        refine r_ild X (dat D_Circuit_and 134 rfl) 0 rfl ?_
        refine r_imul (z := nI (2 * (cV C))) X (dat D_Circuit_and 135 rfl) (pk_mul _ _) ?_
        obtain ⟨gk, ge, gv, gf, gg⟩ := gate_new hok0 rfl hf.1 hf.2.1 (by omega) hf.2.2 hh7 x1 x2 x3 x4 x5 x6 x7 x8 x11 tr ur vr v_l vu vk vo
        refine r_iret RT (dat D_Circuit_and 136 rfl) E4 ⟨2 * cV C, rfl, gk, vb, ge, by omega, by omega, fun al => ?_⟩ hw
        rw [VL_gate gk.2.2.2.2.2.2.2.1 (by omega) (by omega) al, gf, gg]
        exact hsem E4 ge al
      · have hw : Wd b BC BS sl s A [circW b h D] sz' sl' H lo := hw.re rfl
        refine r_aldn X (dat D_Circuit_and 78 rfl) rfl 4 rfl ?_
        refine r_callV (NW := 1) (As := []) (st := []) X hw m_Circuit_85 (c_grow l b BC BS _ _ h D B1 B2 hB1 hB2 k1 k2 (by omega)) (dat D_Circuit_and 79 rfl) [0] [] rfl (by decide +kernel) rfl rfl (hw.recv X 0 0 rfl (circ0 b h D).choose_spec k_Circuit) rfl rfl (Nat.le_of_ble_eq_true rfl) ⟨by decide, by decide⟩ (fun r D2 sz_4 sl_4 H lo hp hw => ?_)
        obtain ⟨rfl, m1, m2, m3, m4, m5, m6, m7, m8, m9, m10, m11, m12, m13, m14, m15⟩ := hp
        refine r_st (st' := []) rfl ?_
        have hw : Wd b BC BS sl s A [circW b h D2] sz_4 sl_4 H lo := hw
        refine r_goto (tgt := 127) X (dat D_Circuit_and 80 rfl) rfl ?_
        exact ih D2 _ _ H lo (by omega) hf (grow_step hI m1 m2 m3 m4 m5 m6 m7 m8 m9 m10 m11 m12 m13 m14 m15) hw
  have JN : ∀  (H : Heap) (lo : List Loc), (2 ≤ pp ∧ pp < qq ∧ pp / 2 ≠ qq / 2) → Wd b BC BS sl s A [circW b h C] sz sl H lo → V p l e R s m args below meth c Q 7 H lo 114 [(6, .int (nI 0)), (5, .int (nI hh)), (4, .int (nI qq)), (3, .int (nI pp)), (0, .ref h), (1, .int (nI a)), (2, .int (nI ic))] [] := by
    intro  H lo hf hw
    have hw : Wd b BC BS sl s A [[cO h 2 [.ref C.1.1, .ref C.2.1.1, .int (nI (cU C)), .int (nI (cK C)), .int (nI (cV C)), .ref C.2.2.1.1, .ref C.2.2.2.1.1, .ref C.2.2.2.2.1.1, .ref C.2.2.2.2.2.1.1, .ref C.2.2.2.2.2.2.1.1, .ref C.2.2.2.2.2.2.2.1.1, .ref C.2.2.2.2.2.2.2.2.1.1]], [cN b C.1.1 (lL C) (fL C)], [cN b C.2.1.1 (lS C) (fS C)], [cN b C.2.2.1.1 C.2.2.1.2.1 (fC C)], [cN b C.2.2.2.1.1 C.2.2.2.1.2.1 (fN C)], [cN b C.2.2.2.2.1.1 (lP C) C.2.2.2.2.1.2.2], [cN b C.2.2.2.2.2.1.1 (lF C) (fF C)], [cN b C.2.2.2.2.2.2.1.1 C.2.2.2.2.2.2.1.2.1 (fG C)], [cN b C.2.2.2.2.2.2.2.1.1 C.2.2.2.2.2.2.2.1.2.1 (fH C)], [cN b C.2.2.2.2.2.2.2.2.1.1 C.2.2.2.2.2.2.2.2.1.2.1 (fD C)]] sz sl H lo := hw.re rfl
    refine r_aldn X (dat D_Circuit_and 65 rfl) rfl 4 rfl ?_
    refine r_dup X (dat D_Circuit_and 66 rfl) rfl ?_
    refine r_get X hw f_Circuit_46 (dat D_Circuit_and 67 rfl) 0 0 rfl rfl rfl ?_
    refine r_dup_x1 X (dat D_Circuit_and 68 rfl) rfl rfl ?_
    refine r_iconst (v := nI 1) X (dat D_Circuit_and 69 rfl) rfl ?_
    refine r_iadd (z := nI ((cV C) + 1)) X (dat D_Circuit_and 70 rfl) (nI_add _ _) ?_
    refine r_put (Ws' := [[cO h 2 [.ref C.1.1, .ref C.2.1.1, .int (nI (cU C)), .int (nI (cK C)), .int (nI ((cV C) + 1)), .ref C.2.2.1.1, .ref C.2.2.2.1.1, .ref C.2.2.2.2.1.1, .ref C.2.2.2.2.2.1.1, .ref C.2.2.2.2.2.2.1.1, .ref C.2.2.2.2.2.2.2.1.1, .ref C.2.2.2.2.2.2.2.2.1.1]], [cN b C.1.1 (lL C) (fL C)], [cN b C.2.1.1 (lS C) (fS C)], [cN b C.2.2.1.1 C.2.2.1.2.1 (fC C)], [cN b C.2.2.2.1.1 C.2.2.2.1.2.1 (fN C)], [cN b C.2.2.2.2.1.1 (lP C) C.2.2.2.2.1.2.2], [cN b C.2.2.2.2.2.1.1 (lF C) (fF C)], [cN b C.2.2.2.2.2.2.1.1 C.2.2.2.2.2.2.1.2.1 (fG C)], [cN b C.2.2.2.2.2.2.2.1.1 C.2.2.2.2.2.2.2.1.2.1 (fH C)], [cN b C.2.2.2.2.2.2.2.2.1.1 C.2.2.2.2.2.2.2.2.1.2.1 (fD C)]]) X hw f_Circuit_46 (dat D_Circuit_and 71 rfl) 0 0 rfl rfl rfl rfl rfl (Nat.le_of_ble_eq_true rfl) rfl (fun H lo hw => ?_)
    refine r_ist (L' := [(6, .int (nI (cV C))), (5, .int (nI hh)), (4, .int (nI qq)), (3, .int (nI pp)), (0, .ref h), (1, .int (nI a)), (2, .int (nI ic))]) X (dat D_Circuit_and 72 rfl) (by decide) rfl ?_
    have hw : Wd b BC BS sl s A [circW b h (setV C (cV C + 1))] sz sl H lo := hw.re rfl
    exact JG 65537 _ _ _ H lo (by omega) hf (grow_start hok0 hb) hw
  refine r_icmpeq (tgt := 32) X (nI_eq (by omega) (by omega)) (dat D_Circuit_and 10 rfl) rfl (fun hc1 => ?_) (fun hc1 => ?_)
  · exact JF H lo (Or.inl hc1) hw
  · refine r_ild X (dat D_Circuit_and 11 rfl) 0 rfl ?_
    refine r_iconst (v := nI 1) X (dat D_Circuit_and 12 rfl) rfl ?_
    refine r_icmpeq (tgt := 32) X (nI_eq (by omega) (by omega)) (dat D_Circuit_and 13 rfl) rfl (fun hc2 => ?_) (fun hc2 => ?_)
    · exact JF H lo (Or.inr (Or.inl hc2)) hw
    · have nq := ng_lt hq2
      refine r_ildn X (dat D_Circuit_and 14 rfl) rfl 1 rfl ?_
      refine r_ild X (dat D_Circuit_and 15 rfl) 0 rfl ?_
      refine r_iconst (v := nI 1) X (dat D_Circuit_and 16 rfl) rfl ?_
      refine r_ixor (z := nI (ng qq)) X (dat D_Circuit_and 17 rfl) (ngE _) ?_
      refine r_icmpne (tgt := 34) X (nI_eq (by omega) (by omega)) (dat D_Circuit_and 18 rfl) rfl (fun hc3 => ?_) (fun hc3 => ?_)
      · refine r_ildn X (dat D_Circuit_and 21 rfl) rfl 1 rfl ?_
        refine r_ifeq (tgt := 44) X (n0_eq (by omega)) (dat D_Circuit_and 22 rfl) rfl (fun hc4 => ?_) (fun hc4 => ?_)
        · exact JQ H lo (Or.inl hc4) hw
        · refine r_ildn X (dat D_Circuit_and 23 rfl) rfl 1 rfl ?_
          refine r_ild X (dat D_Circuit_and 24 rfl) 0 rfl ?_
          refine r_icmpne (tgt := 47) X (nI_eq (by omega) (by omega)) (dat D_Circuit_and 25 rfl) rfl (fun hc5 => ?_) (fun hc5 => ?_)
          · have hf : 2 ≤ pp ∧ pp < qq ∧ pp / 2 ≠ qq / 2 := ⟨by omega, by omega, fun e => by rcases half_eq e with e | e <;> contradiction⟩
            have e3 := h1.2.2.1
            have e4 := h1.2.2.2.1
            have e5 := h1.2.2.2.2.1
            have hhd := h11 hh hh7
            have hw : Wd b BC BS sl s A [[cO h 2 [.ref C.1.1, .ref C.2.1.1, .int (nI (cU C)), .int (nI (cK C)), .int (nI (cV C)), .ref C.2.2.1.1, .ref C.2.2.2.1.1, .ref C.2.2.2.2.1.1, .ref C.2.2.2.2.2.1.1, .ref C.2.2.2.2.2.2.1.1, .ref C.2.2.2.2.2.2.2.1.1, .ref C.2.2.2.2.2.2.2.2.1.1]], [cN b C.1.1 (lL C) (fL C)], [cN b C.2.1.1 (lS C) (fS C)], [cN b C.2.2.1.1 C.2.2.1.2.1 (fC C)], [cN b C.2.2.2.1.1 C.2.2.2.1.2.1 (fN C)], [cN b C.2.2.2.2.1.1 (lP C) C.2.2.2.2.1.2.2], [cN b C.2.2.2.2.2.1.1 (lF C) (fF C)], [cN b C.2.2.2.2.2.2.1.1 C.2.2.2.2.2.2.1.2.1 (fG C)], [cN b C.2.2.2.2.2.2.2.1.1 C.2.2.2.2.2.2.2.1.2.1 (fH C)], [cN b C.2.2.2.2.2.2.2.2.1.1 C.2.2.2.2.2.2.2.2.1.2.1 (fD C)]] sz sl H lo := hw.re rfl
            refine r_bipush (v := nI 31) X (dat D_Circuit_and 28 rfl) (by decide) ?_
            refine r_ildn X (dat D_Circuit_and 29 rfl) rfl 1 rfl ?_
            refine r_imul (z := nI (31 * pp)) X (dat D_Circuit_and 30 rfl) (pk_mul _ _) ?_
            refine r_ild X (dat D_Circuit_and 31 rfl) 0 rfl ?_
            refine r_iadd (z := nI ((31 * pp) + qq)) X (dat D_Circuit_and 32 rfl) (nI_add _ _) ?_
            refine r_sipush (v := nI 257) X (dat D_Circuit_and 33 rfl) (by decide) ?_
            refine r_irem (z := nI (((31 * pp) + qq) % 257)) X (dat D_Circuit_and 34 rfl) (nI_ne0 (by omega) (by omega)) (pk_rem (by omega) (by omega) (by omega)) ?_
            rw [hhh]
            refine r_ist (L' := [(5, .int (nI hh)), (4, .int (nI qq)), (3, .int (nI pp)), (0, .ref h), (1, .int (nI a)), (2, .int (nI ic))]) X (dat D_Circuit_and 35 rfl) (by decide) rfl ?_
            refine r_aldn X (dat D_Circuit_and 36 rfl) rfl 3 rfl ?_
            refine r_get X hw f_Circuit_36 (dat D_Circuit_and 37 rfl) 0 0 rfl rfl rfl ?_
            refine r_ild X (dat D_Circuit_and 38 rfl) 0 rfl ?_
            refine r_ialdN X hw (dat D_Circuit_and 39 rfl) 9 0 rfl rfl (by omega) (by omega) ?_
            refine r_ist (L' := [(6, .int (nI ((fD C) hh))), (5, .int (nI hh)), (4, .int (nI qq)), (3, .int (nI pp)), (0, .ref h), (1, .int (nI a)), (2, .int (nI ic))]) X (dat D_Circuit_and 40 rfl) (by decide) rfl ?_
            have JL : ∀ (NN : Nat) (g : Nat) (H : Heap) (lo : List Loc), g < NN → (g = 0 ∨ 16 ≤ g ∧ g < cV C) → Wd b BC BS sl s A [[cO h 2 [.ref C.1.1, .ref C.2.1.1, .int (nI (cU C)), .int (nI (cK C)), .int (nI (cV C)), .ref C.2.2.1.1, .ref C.2.2.2.1.1, .ref C.2.2.2.2.1.1, .ref C.2.2.2.2.2.1.1, .ref C.2.2.2.2.2.2.1.1, .ref C.2.2.2.2.2.2.2.1.1, .ref C.2.2.2.2.2.2.2.2.1.1]], [cN b C.1.1 (lL C) (fL C)], [cN b C.2.1.1 (lS C) (fS C)], [cN b C.2.2.1.1 C.2.2.1.2.1 (fC C)], [cN b C.2.2.2.1.1 C.2.2.2.1.2.1 (fN C)], [cN b C.2.2.2.2.1.1 (lP C) C.2.2.2.2.1.2.2], [cN b C.2.2.2.2.2.1.1 (lF C) (fF C)], [cN b C.2.2.2.2.2.2.1.1 C.2.2.2.2.2.2.1.2.1 (fG C)], [cN b C.2.2.2.2.2.2.2.1.1 C.2.2.2.2.2.2.2.1.2.1 (fH C)], [cN b C.2.2.2.2.2.2.2.2.1.1 C.2.2.2.2.2.2.2.2.1.2.1 (fD C)]] sz sl H lo → V p l e R s m args below meth c Q 7 H lo 69 [(6, .int (nI g)), (5, .int (nI hh)), (4, .int (nI qq)), (3, .int (nI pp)), (0, .ref h), (1, .int (nI a)), (2, .int (nI ic))] [] := by
              intro NN
              induction NN with
              | zero =>
                intro g H lo hNN
                exact absurd hNN (by omega)
              | succ NN ih =>
                intro g H lo hNN hgr hw
                refine r_ild X (dat D_Circuit_and 41 rfl) 0 rfl ?_
                refine r_ifeq (tgt := 114) X (n0_eq (by omega)) (dat D_Circuit_and 42 rfl) rfl (fun hc6 => ?_) (fun hc6 => ?_)
                · subst hc6
                  have hw : Wd b BC BS sl s A [circW b h C] sz sl H lo := hw.re rfl
                  exact JN H lo hf hw
                · have hg16 : 16 ≤ g ∧ g < cV C := by omega
                  have hgk1 := h8 g hg16.1 hg16.2
                  have hch1 := h12 g hg16.1 hg16.2
                  have JX : ∀  (H : Heap) (lo : List Loc), Wd b BC BS sl s A [[cO h 2 [.ref C.1.1, .ref C.2.1.1, .int (nI (cU C)), .int (nI (cK C)), .int (nI (cV C)), .ref C.2.2.1.1, .ref C.2.2.2.1.1, .ref C.2.2.2.2.1.1, .ref C.2.2.2.2.2.1.1, .ref C.2.2.2.2.2.2.1.1, .ref C.2.2.2.2.2.2.2.1.1, .ref C.2.2.2.2.2.2.2.2.1.1]], [cN b C.1.1 (lL C) (fL C)], [cN b C.2.1.1 (lS C) (fS C)], [cN b C.2.2.1.1 C.2.2.1.2.1 (fC C)], [cN b C.2.2.2.1.1 C.2.2.2.1.2.1 (fN C)], [cN b C.2.2.2.2.1.1 (lP C) C.2.2.2.2.1.2.2], [cN b C.2.2.2.2.2.1.1 (lF C) (fF C)], [cN b C.2.2.2.2.2.2.1.1 C.2.2.2.2.2.2.1.2.1 (fG C)], [cN b C.2.2.2.2.2.2.2.1.1 C.2.2.2.2.2.2.2.1.2.1 (fH C)], [cN b C.2.2.2.2.2.2.2.2.1.1 C.2.2.2.2.2.2.2.2.1.2.1 (fD C)]] sz sl H lo → V p l e R s m args below meth c Q 7 H lo 102 [(6, .int (nI g)), (5, .int (nI hh)), (4, .int (nI qq)), (3, .int (nI pp)), (0, .ref h), (1, .int (nI a)), (2, .int (nI ic))] [] := by
                    intro  H lo  hw
                    refine r_aldn X (dat D_Circuit_and 59 rfl) rfl 4 rfl ?_
                    refine r_get X hw f_Circuit_33 (dat D_Circuit_and 60 rfl) 0 0 rfl rfl rfl ?_
                    refine r_ild X (dat D_Circuit_and 61 rfl) 0 rfl ?_
                    refine r_ialdN X hw (dat D_Circuit_and 62 rfl) 8 0 rfl rfl (by omega) (by omega) ?_
                    refine r_ist (L' := [(6, .int (nI ((fH C) g))), (5, .int (nI hh)), (4, .int (nI qq)), (3, .int (nI pp)), (0, .ref h), (1, .int (nI a)), (2, .int (nI ic))]) X (dat D_Circuit_and 63 rfl) (by decide) rfl ?_
                    refine r_goto (tgt := 69) X (dat D_Circuit_and 64 rfl) rfl ?_
                    exact ih (fH C g) H lo (by omega) (by omega) hw
                  refine r_aldn X (dat D_Circuit_and 43 rfl) rfl 4 rfl ?_
                  refine r_get X hw f_Circuit_27 (dat D_Circuit_and 44 rfl) 0 0 rfl rfl rfl ?_
                  refine r_ild X (dat D_Circuit_and 45 rfl) 0 rfl ?_
                  refine r_ialdN X hw (dat D_Circuit_and 46 rfl) 6 0 rfl rfl (by omega) (by omega) ?_
                  refine r_ildn X (dat D_Circuit_and 47 rfl) rfl 3 rfl ?_
                  refine r_icmpne (tgt := 102) X (nI_eq (by omega) (by omega)) (dat D_Circuit_and 48 rfl) rfl (fun hc7 => ?_) (fun hc7 => ?_)
                  · exact JX H lo hw
                  · refine r_aldn X (dat D_Circuit_and 49 rfl) rfl 4 rfl ?_
                    refine r_get X hw f_Circuit_30 (dat D_Circuit_and 50 rfl) 0 0 rfl rfl rfl ?_
                    refine r_ild X (dat D_Circuit_and 51 rfl) 0 rfl ?_
                    refine r_ialdN X hw (dat D_Circuit_and 52 rfl) 7 0 rfl rfl (by omega) (by omega) ?_
                    refine r_ild X (dat D_Circuit_and 53 rfl) 2 rfl ?_
                    refine r_icmpne (tgt := 102) X (nI_eq (by omega) (by omega)) (dat D_Circuit_and 54 rfl) rfl (fun hc8 => ?_) (fun hc8 => ?_)
                    · exact JX H lo hw
                    · refine r_iconst (v := nI 2) X (dat D_Circuit_and 55 rfl) rfl ?_
                      refine r_ild X (dat D_Circuit_and 56 rfl) 0 rfl ?_
                      refine r_imul (z := nI (2 * g)) X (dat D_Circuit_and 57 rfl) (pk_mul _ _) ?_
                      have hw : Wd b BC BS sl s A [circW b h C] sz sl H lo := hw.re rfl
                      refine r_iret RT (dat D_Circuit_and 58 rfl) C ⟨2 * g, rfl, hok0, hb, Ext.refl _, Nat.le_succ _, by omega, fun al => ?_⟩ hw
                      have e9 := hsem _ (Ext.refl _) al
                      refine ((VL_gate h8 hg16.1 hg16.2 al).trans ?_).trans e9
                      rw [hc7, hc8]
            exact JL (fD C hh + 1) (fD C hh) H lo (by omega) hhd hw
          · exact JQ H lo (Or.inr hc5) hw
      · exact JF H lo (Or.inr (Or.inr hc3)) hw
set_option maxHeartbeats 4000000 in
set_option maxRecDepth 100000 in
theorem c_or (l : Launch) (b : BK) (BC BS sz sl : Nat) (h : Nat) (C : CT) (a ic : Nat) (P1 P2 : (Nat → Bool) → Bool) (B1 B2 : Nat) (hB1 : B1 ≤ BS) (hB2 : B2 ≤ BC) (hok : GateOK C) (hb : cBud B1 B2 C sz sl) (hv : cV C < 65536) (ha : Sem C a P1) (hc : Sem C ic P2) : Con l b y_Circuit_or b_Circuit_or 3 (some .int) 6 180 BC BS sz sl [.ref h, .int (nI a), .int (nI ic)] [circW b h C] (S := CT) (fun r sz' sl' C' => ∃ x, r = some (.int (nI x)) ∧ GateOK C' ∧ cBud B1 B2 C' sz' sl' ∧ Ext C C' ∧ cV C' ≤ cV C + 1 ∧ Sem C' x (fun al => P1 al || P2 al)) (fun C' => [circW b h C']) := by
  have hal := ha.1
  have hcl := hc.1
  have hq1 := hok.2.2.1
  have hq2 := hok.1.2.2.2.2.2.2.2.2.1.le
  have hna := ng_lt hal
  have hnc := ng_lt hcl
  refine con_of (L0 := [(0, .ref h), (1, .int (nI a)), (2, .int (nI ic))]) (by decide) (Nat.le_of_ble_eq_true rfl) rfl ?_
  intro p e R s m args below meth c Q A H lo X hini hw RT
  have X : Ctx p R s m args meth c b_Circuit_or 3 "LoopProver$Circuit" b BC BS sl 6 180 := X
  have hw : Wd b BC BS sl s A [circW b h C] sz sl H lo := hw
  refine r_aldn X (dat D_Circuit_or 0 rfl) rfl 0 rfl ?_
  refine r_ildn X (dat D_Circuit_or 1 rfl) rfl 1 rfl ?_
  refine r_iconst (v := nI 1) X (dat D_Circuit_or 2 rfl) rfl ?_
  refine r_ixor (z := nI (ng a)) X (dat D_Circuit_or 3 rfl) (ngE _) ?_
  refine r_ildn X (dat D_Circuit_or 4 rfl) rfl 2 rfl ?_
  refine r_iconst (v := nI 1) X (dat D_Circuit_or 5 rfl) rfl ?_
  refine r_ixor (z := nI (ng ic)) X (dat D_Circuit_or 6 rfl) (ngE _) ?_
  refine r_callV (NW := 1) (As := [.int (nI (ng a)), .int (nI (ng ic))]) (st := []) X hw m_Circuit_88 (c_and l b BC BS _ _ h C (ng a) (ng ic) (fun al => !P1 al) (fun al => !P2 al) B1 B2 hB1 hB2 hok hb hv ha.ng hc.ng) (dat D_Circuit_or 7 rfl) [0] [] rfl (by decide +kernel) rfl rfl (hw.recv X 0 0 rfl (circ0 b h C).choose_spec k_Circuit) rfl rfl (Nat.le_of_ble_eq_true rfl) ⟨by decide, by decide⟩ (fun r D sz_1 sl_1 H lo hp hw => ?_)
  obtain ⟨rx, rfl, rok, rb, re, rv, rs⟩ := hp
  refine r_st (st' := [.int (nI rx)]) rfl ?_
  have hw : Wd b BC BS sl s A [circW b h D] sz_1 sl_1 H lo := hw
  have re1 := re.1
  have r_l := rs.1
  have rq := rok.2.2.1
  have rq2 := rok.1.2.2.2.2.2.2.2.2.1.le
  refine r_iconst (v := nI 1) X (dat D_Circuit_or 8 rfl) rfl ?_
  refine r_ixor (z := nI (ng rx)) X (dat D_Circuit_or 9 rfl) (ngE _) ?_
  exact r_iret RT (dat D_Circuit_or 10 rfl) D ⟨ng rx, rfl, rok, rb, re, rv, rs.ng.cong (fun al => by cases P1 al <;> cases P2 al <;> rfl)⟩ hw
set_option maxHeartbeats 4000000 in
set_option maxRecDepth 100000 in
theorem c_differ (l : Launch) (b : BK) (BC BS sz sl : Nat) (h : Nat) (C : CT) (a ic : Nat) (P1 P2 : (Nat → Bool) → Bool) (B1 B2 : Nat) (hB1 : B1 ≤ BS) (hB2 : B2 ≤ BC) (hok : GateOK C) (hb : cBud B1 B2 C sz sl) (hv : cV C + 2 < 65536) (ha : Sem C a P1) (hc : Sem C ic P2) : Con l b y_Circuit_differ b_Circuit_differ 3 (some .int) 7 210 BC BS sz sl [.ref h, .int (nI a), .int (nI ic)] [circW b h C] (S := CT) (fun r sz' sl' C' => ∃ x, r = some (.int (nI x)) ∧ GateOK C' ∧ cBud B1 B2 C' sz' sl' ∧ Ext C C' ∧ cV C' ≤ cV C + 3 ∧ Sem C' x (fun al => P1 al ^^ P2 al)) (fun C' => [circW b h C']) := by
  have hal := ha.1
  have hcl := hc.1
  have hq1 := hok.2.2.1
  have hq2 := hok.1.2.2.2.2.2.2.2.2.1.le
  have hna := ng_lt hal
  have hnc := ng_lt hcl
  refine con_of (L0 := [(0, .ref h), (1, .int (nI a)), (2, .int (nI ic))]) (by decide) (Nat.le_of_ble_eq_true rfl) rfl ?_
  intro p e R s m args below meth c Q A H lo X hini hw RT
  have X : Ctx p R s m args meth c b_Circuit_differ 3 "LoopProver$Circuit" b BC BS sl 7 210 := X
  have hw : Wd b BC BS sl s A [circW b h C] sz sl H lo := hw
  refine r_aldn X (dat D_Circuit_differ 0 rfl) rfl 0 rfl ?_
  refine r_aldn X (dat D_Circuit_differ 1 rfl) rfl 0 rfl ?_
  refine r_ildn X (dat D_Circuit_differ 2 rfl) rfl 1 rfl ?_
  refine r_ildn X (dat D_Circuit_differ 3 rfl) rfl 2 rfl ?_
  refine r_iconst (v := nI 1) X (dat D_Circuit_differ 4 rfl) rfl ?_
  refine r_ixor (z := nI (ng ic)) X (dat D_Circuit_differ 5 rfl) (ngE _) ?_
  refine r_callV (NW := 1) (As := [.int (nI a), .int (nI (ng ic))]) (st := [.ref h]) X hw m_Circuit_88 (c_and l b BC BS _ _ h C a (ng ic) P1 (fun al => !P2 al) B1 B2 hB1 hB2 hok hb (by omega) ha hc.ng) (dat D_Circuit_differ 6 rfl) [0] [] rfl (by decide +kernel) rfl rfl (hw.recv X 0 0 rfl (circ0 b h C).choose_spec k_Circuit) rfl rfl (Nat.le_of_ble_eq_true rfl) ⟨by decide, by decide⟩ (fun r D sz_1 sl_1 H lo hp hw => ?_)
  obtain ⟨rx, rfl, rok, rb, re, rv, rs⟩ := hp
  refine r_st (st' := [.int (nI rx), .ref h]) rfl ?_
  have hw : Wd b BC BS sl s A [circW b h D] sz_1 sl_1 H lo := hw
  have re1 := re.1
  have r_l := rs.1
  have rq := rok.2.2.1
  have rq2 := rok.1.2.2.2.2.2.2.2.2.1.le
  refine r_aldn X (dat D_Circuit_differ 7 rfl) rfl 0 rfl ?_
  refine r_ildn X (dat D_Circuit_differ 8 rfl) rfl 1 rfl ?_
  refine r_iconst (v := nI 1) X (dat D_Circuit_differ 9 rfl) rfl ?_
  refine r_ixor (z := nI (ng a)) X (dat D_Circuit_differ 10 rfl) (ngE _) ?_
  refine r_ildn X (dat D_Circuit_differ 11 rfl) rfl 2 rfl ?_
  refine r_callV (NW := 1) (As := [.int (nI (ng a)), .int (nI ic)]) (st := [.int (nI rx), .ref h]) X hw m_Circuit_88 (c_and l b BC BS _ _ h D (ng a) ic (fun al => !P1 al) P2 B1 B2 hB1 hB2 rok rb (by omega) (ha.ng.ext re) (hc.ext re)) (dat D_Circuit_differ 12 rfl) [0] [] rfl (by decide +kernel) rfl rfl (hw.recv X 0 0 rfl (circ0 b h D).choose_spec k_Circuit) rfl rfl (Nat.le_of_ble_eq_true rfl) ⟨by decide, by decide⟩ (fun r D2 sz_2 sl_2 H lo hp hw => ?_)
  obtain ⟨sx, rfl, sok, sb, se, sv, ss⟩ := hp
  refine r_st (st' := [.int (nI sx), .int (nI rx), .ref h]) rfl ?_
  have hw : Wd b BC BS sl s A [circW b h D2] sz_2 sl_2 H lo := hw
  have se1 := se.1
  have s_l := ss.1
  have sq := sok.2.2.1
  have sq2 := sok.1.2.2.2.2.2.2.2.2.1.le
  refine r_callV (NW := 1) (As := [.int (nI rx), .int (nI sx)]) (st := []) X hw m_Circuit_91 (c_or l b BC BS _ _ h D2 rx sx (fun al => P1 al && !P2 al) (fun al => !P1 al && P2 al) B1 B2 hB1 hB2 sok sb (by omega) (rs.ext se) ss) (dat D_Circuit_differ 13 rfl) [0] [] rfl (by decide +kernel) rfl rfl (hw.recv X 0 0 rfl (circ0 b h D2).choose_spec k_Circuit) rfl rfl (Nat.le_of_ble_eq_true rfl) ⟨by decide, by decide⟩ (fun r D3 sz_3 sl_3 H lo hp hw => ?_)
  obtain ⟨tx, rfl, tok, tb, te, tv, ts⟩ := hp
  refine r_st (st' := [.int (nI tx)]) rfl ?_
  have hw : Wd b BC BS sl s A [circW b h D3] sz_3 sl_3 H lo := hw
  have te1 := te.1
  have t_l := ts.1
  have tq := tok.2.2.1
  have tq2 := tok.1.2.2.2.2.2.2.2.2.1.le
  exact r_iret RT (dat D_Circuit_differ 14 rfl) D3 ⟨tx, rfl, tok, tb, (re.trans se).trans te, by omega, ts.cong (fun al => by cases P1 al <;> cases P2 al <;> rfl)⟩ hw
set_option maxHeartbeats 4000000 in
set_option maxRecDepth 100000 in
theorem c_either (l : Launch) (b : BK) (BC BS sz sl : Nat) (h : Nat) (C : CT) (t a ic : Nat) (P0 P1 P2 : (Nat → Bool) → Bool) (B1 B2 : Nat) (hB1 : B1 ≤ BS) (hB2 : B2 ≤ BC) (hok : GateOK C) (hb : cBud B1 B2 C sz sl) (hv : cV C + 2 < 65536) (ha : Sem C a P1) (hc : Sem C ic P2) (ht : Sem C t P0) : Con l b y_Circuit_either b_Circuit_either 4 (some .int) 7 210 BC BS sz sl [.ref h, .int (nI t), .int (nI a), .int (nI ic)] [circW b h C] (S := CT) (fun r sz' sl' C' => ∃ x, r = some (.int (nI x)) ∧ GateOK C' ∧ cBud B1 B2 C' sz' sl' ∧ Ext C C' ∧ cV C' ≤ cV C + 3 ∧ Sem C' x (fun al => if P0 al then P1 al else P2 al)) (fun C' => [circW b h C']) := by
  have hal := ha.1
  have hcl := hc.1
  have hq1 := hok.2.2.1
  have hq2 := hok.1.2.2.2.2.2.2.2.2.1.le
  have hna := ng_lt hal
  have hnc := ng_lt hcl
  have htl := ht.1
  have hnt := ng_lt htl
  refine con_of (L0 := [(0, .ref h), (1, .int (nI t)), (2, .int (nI a)), (3, .int (nI ic))]) (by decide) (Nat.le_of_ble_eq_true rfl) rfl ?_
  intro p e R s m args below meth c Q A H lo X hini hw RT
  have X : Ctx p R s m args meth c b_Circuit_either 4 "LoopProver$Circuit" b BC BS sl 7 210 := X
  have hw : Wd b BC BS sl s A [circW b h C] sz sl H lo := hw
  refine r_ildn X (dat D_Circuit_either 0 rfl) rfl 2 rfl ?_
  refine r_ildn X (dat D_Circuit_either 1 rfl) rfl 3 rfl ?_
  refine r_icmpne (tgt := 9) X (nI_eq (by omega) (by omega)) (dat D_Circuit_either 2 rfl) rfl (fun hc1 => ?_) (fun hc1 => ?_)
  · refine r_aldn X (dat D_Circuit_either 5 rfl) rfl 0 rfl ?_
    refine r_aldn X (dat D_Circuit_either 6 rfl) rfl 0 rfl ?_
    refine r_ildn X (dat D_Circuit_either 7 rfl) rfl 1 rfl ?_
    refine r_ildn X (dat D_Circuit_either 8 rfl) rfl 2 rfl ?_
    refine r_callV (NW := 1) (As := [.int (nI t), .int (nI a)]) (st := [.ref h]) X hw m_Circuit_88 (c_and l b BC BS _ _ h C t a P0 P1 B1 B2 hB1 hB2 hok hb (by omega) ht ha) (dat D_Circuit_either 9 rfl) [0] [] rfl (by decide +kernel) rfl rfl (hw.recv X 0 0 rfl (circ0 b h C).choose_spec k_Circuit) rfl rfl (Nat.le_of_ble_eq_true rfl) ⟨by decide, by decide⟩ (fun r D sz_1 sl_1 H lo hp hw => ?_)
    obtain ⟨rx, rfl, rok, rb, re, rv, rs⟩ := hp
    refine r_st (st' := [.int (nI rx), .ref h]) rfl ?_
    have hw : Wd b BC BS sl s A [circW b h D] sz_1 sl_1 H lo := hw
    have re1 := re.1
    have r_l := rs.1
    have rq := rok.2.2.1
    have rq2 := rok.1.2.2.2.2.2.2.2.2.1.le
    refine r_aldn X (dat D_Circuit_either 10 rfl) rfl 0 rfl ?_
    refine r_ildn X (dat D_Circuit_either 11 rfl) rfl 1 rfl ?_
    refine r_iconst (v := nI 1) X (dat D_Circuit_either 12 rfl) rfl ?_
    refine r_ixor (z := nI (ng t)) X (dat D_Circuit_either 13 rfl) (ngE _) ?_
    refine r_ildn X (dat D_Circuit_either 14 rfl) rfl 3 rfl ?_
    refine r_callV (NW := 1) (As := [.int (nI (ng t)), .int (nI ic)]) (st := [.int (nI rx), .ref h]) X hw m_Circuit_88 (c_and l b BC BS _ _ h D (ng t) ic (fun al => !P0 al) P2 B1 B2 hB1 hB2 rok rb (by omega) (ht.ng.ext re) (hc.ext re)) (dat D_Circuit_either 15 rfl) [0] [] rfl (by decide +kernel) rfl rfl (hw.recv X 0 0 rfl (circ0 b h D).choose_spec k_Circuit) rfl rfl (Nat.le_of_ble_eq_true rfl) ⟨by decide, by decide⟩ (fun r D2 sz_2 sl_2 H lo hp hw => ?_)
    obtain ⟨sx, rfl, sok, sb, se, sv, ss⟩ := hp
    refine r_st (st' := [.int (nI sx), .int (nI rx), .ref h]) rfl ?_
    have hw : Wd b BC BS sl s A [circW b h D2] sz_2 sl_2 H lo := hw
    have se1 := se.1
    have s_l := ss.1
    have sq := sok.2.2.1
    have sq2 := sok.1.2.2.2.2.2.2.2.2.1.le
    refine r_callV (NW := 1) (As := [.int (nI rx), .int (nI sx)]) (st := []) X hw m_Circuit_91 (c_or l b BC BS _ _ h D2 rx sx (fun al => P0 al && P1 al) (fun al => !P0 al && P2 al) B1 B2 hB1 hB2 sok sb (by omega) (rs.ext se) ss) (dat D_Circuit_either 16 rfl) [0] [] rfl (by decide +kernel) rfl rfl (hw.recv X 0 0 rfl (circ0 b h D2).choose_spec k_Circuit) rfl rfl (Nat.le_of_ble_eq_true rfl) ⟨by decide, by decide⟩ (fun r D3 sz_3 sl_3 H lo hp hw => ?_)
    obtain ⟨zx, rfl, zok, zb, ze, zv, zs⟩ := hp
    refine r_st (st' := [.int (nI zx)]) rfl ?_
    have hw : Wd b BC BS sl s A [circW b h D3] sz_3 sl_3 H lo := hw
    have ze1 := ze.1
    have z_l := zs.1
    have zq := zok.2.2.1
    have zq2 := zok.1.2.2.2.2.2.2.2.2.1.le
    exact r_iret RT (dat D_Circuit_either 17 rfl) D3 ⟨zx, rfl, zok, zb, (re.trans se).trans ze, by omega, zs.cong (fun al => by cases P0 al <;> cases P1 al <;> cases P2 al <;> rfl)⟩ hw
  · refine r_ildn X (dat D_Circuit_either 3 rfl) rfl 2 rfl ?_
    refine r_goto (tgt := 27) X (dat D_Circuit_either 4 rfl) rfl ?_
    exact r_iret RT (dat D_Circuit_either 17 rfl) C ⟨a, rfl, hok, hb, Ext.refl C, by omega, ha.cong (fun al => by
      have e := hc.2 al
      rw [← hc1, ha.2 al] at e
      rw [e]
      split <;> rfl)⟩ hw
