/-! CIRCUIT, part 3: keep, begin, the constructor -/
def KeepI (B1 B2 : Nat) (rf : Nat → Nat) (C D : CT) (i sz sl : Nat) : Prop := cLen D ∧ cBud B1 B2 D sz sl ∧ cU D = cU C + i ∧ cK D = cK C ∧ (∀ j, j < cU C → fL D j = fL C j ∧ fC D j = fC C j ∧ fN D j = fN C j) ∧ (∀ j, j < i → fL D (cU C + j) = rf j) ∧ (∀ j, j < cK C → fS D j = fS C j) ∧ fS D (cK C) = cU C ∧ cK C + 2 ≤ lS D ∧ (∀ a, fP D a = fP C a) ∧ cU D ≤ lL D ∧ SameG C D
def KeepR (rf : Nat → Nat) (n : Nat) (C D : CT) : Prop := cU D = cU C + n ∧ cK D = cK C + 1 ∧ (∀ j, j < cU C → fL D j = fL C j ∧ fC D j = fC C j ∧ fN D j = fN C j) ∧ (∀ j, j < n → fL D (cU C + j) = rf j) ∧ (∀ j, j < cK C → fS D j = fS C j) ∧ fS D (cK C) = cU C ∧ fS D (cK C + 1) = cU D ∧ (∀ a, fP D a = fP C a) ∧ SameG C D
set_option maxHeartbeats 4000000 in
set_option maxRecDepth 100000 in
/-- a clause that no literal leads to -/
theorem c_keep (l : Launch) (b : BK) (BC BS sz sl : Nat) (h : Nat) (C : CT) (ra rl n : Nat) (rf : Nat → Nat) (B1 B2 : Nat) (hB1 : B1 ≤ BS) (hB2 : B2 ≤ BC) (hlen : cLen C) (hb : cBud B1 B2 C sz sl) (hu : cU C ≤ lL C) (hu2 : cU C + n ≤ 524288) (hk : cK C + 1 ≤ lS C) (hk2 : cK C + 2 ≤ 262144) (hn : n ≤ rl) (hrl : rl < 2 ^ 30) : Con l b y_Circuit_keep b_Circuit_keep 4 none 3 90 BC BS sz sl [.ref h, .ref ra, .int (nI n)] [circW b h C, [cN b ra rl rf]] (S := CT) (fun r sz' sl' C' => r = none ∧ cLen C' ∧ cBud B1 B2 C' sz' sl' ∧ KeepR rf n C C' ∧ cU C' ≤ lL C' ∧ cK C' + 1 ≤ lS C') (fun C' => [circW b h C', [cN b ra rl rf]]) := by
  refine con_of (L0 := [(0, .ref h), (1, .ref ra), (2, .int (nI n))]) (by decide) (Nat.le_of_ble_eq_true rfl) rfl ?_
  intro p e R s m args below meth c Q A H lo X hini hw RT
  have X : Ctx p R s m args meth c b_Circuit_keep 4 "LoopProver$Circuit" b BC BS sl 3 90 := X
  have hw : Wd b BC BS sl s A [circW b h C, [cN b ra rl rf]] sz sl H lo := hw
  refine r_aldn X (dat D_Circuit_keep 0 rfl) rfl 0 rfl ?_
  refine r_callV (NW := 2) (As := []) (st := []) X hw m_Circuit_60 (c_open l b BC BS sz sl h C B1 B2 hB1 hB2 hlen hb hk hk2 (by omega)) (dat D_Circuit_keep 1 rfl) [0] [1] rfl (by decide +kernel) rfl rfl (hw.recv X 0 0 rfl (circ0 b h C).choose_spec k_Circuit) rfl rfl (Nat.le_of_ble_eq_true rfl) ⟨by decide, by decide⟩ (fun r D sz_1 sl_1 H lo hp hw => ?_)
  obtain ⟨rfl, c1, c2, c3, c4, c5, c6, c7, c8, c9, c10, c11, c12, c13⟩ := hp
  refine r_st (st' := []) rfl ?_
  have hw : Wd b BC BS sl s A [circW b h D, [cN b ra rl rf]] sz_1 sl_1 H lo := hw
  have hI : KeepI B1 B2 rf C D 0 _ _ := ⟨c1, c2, c3, c4, fun j hj => by rw [c5, c6, c7]; exact ⟨rfl, rfl, rfl⟩, fun j hj => absurd hj (Nat.not_lt_zero j), c9, c10, c11, c12, by rw [c3, c8]; exact hu, c13⟩
  refine r_iconst (v := nI 0) X (dat D_Circuit_keep 2 rfl) rfl ?_
  refine r_istn (L' := [(3, .int (nI 0)), (0, .ref h), (1, .ref ra), (2, .int (nI n))]) X (dat D_Circuit_keep 3 rfl) rfl (by decide) rfl ?_
  have J : ∀ (NN : Nat) (i : Nat) (D : CT) (sz' sl' : Nat) (H : Heap) (lo : List Loc), n - i < NN → (i ≤ n) → (KeepI B1 B2 rf C D i sz' sl') → Wd b BC BS sl s A [circW b h D, [cN b ra rl rf]] sz' sl' H lo → V p l e R s m args below meth c Q 4 H lo 6 [(3, .int (nI i)), (0, .ref h), (1, .ref ra), (2, .int (nI n))] [] := by
    intro NN
    induction NN with
    | zero =>
      intro i D sz' sl' H lo hNN
      exact absurd hNN (by omega)
    | succ NN ih =>
      intro i D sz' sl' H lo hNN hi hI hw
      obtain ⟨k1, k2, k3, k4, k5, k6, k7, k8, k9, k10, k11, k12⟩ := hI
      refine r_ildn X (dat D_Circuit_keep 4 rfl) rfl 0 rfl ?_
      refine r_ildn X (dat D_Circuit_keep 5 rfl) rfl 3 rfl ?_
      refine r_icmpge (tgt := 43) X (nI_leI (by omega) (by omega)) (dat D_Circuit_keep 6 rfl) rfl (fun hc => ?_) (fun hc => ?_)
      · have hin : i = n := by omega
        subst hin
        refine r_aldn X (dat D_Circuit_keep 25 rfl) rfl 1 rfl ?_
        refine r_callV (NW := 2) (As := []) (st := []) X hw m_Circuit_67 (c_close l b BC BS _ _ h D k1 (by rw [k4]; exact k9) (by rw [k3]; omega)) (dat D_Circuit_keep 26 rfl) [0] [1] rfl (by decide +kernel) rfl rfl (hw.recv X 0 0 rfl (circ0 b h D).choose_spec k_Circuit) rfl rfl (Nat.le_of_ble_eq_true rfl) ⟨by decide, by decide⟩ (fun r D2 sz_2 sl_2 H lo hp hw => ?_)
        obtain ⟨rfl, rfl, rfl, c1, c2, c3, c4, c5, c6, c7, c8, c9, c10, c11, c12, c13⟩ := hp
        refine r_st (st' := []) rfl ?_
        have hw : Wd b BC BS sl s A [circW b h D2, [cN b ra rl rf]] sz' sl' H lo := hw
        refine r_vret RT (dat D_Circuit_keep 27 rfl) D2 ⟨rfl, c1, ?_, ⟨c3.trans k3, by rw [c4, k4], fun j hj => by rw [c5, c6, c7]; exact k5 j hj, fun j hj => by rw [c5]; exact k6 j hj, fun j hj => (c10 j (by omega)).trans (k7 j hj), (c10 _ (by omega)).trans k8, ?_, fun a => (c12 a).trans (k10 a), k12.trans c13⟩, by rw [c3, c8]; exact k11, by rw [c4, c9, k4]; exact k9⟩ hw
        · unfold cBud at k2 ⊢
          rw [c2]
          exact k2
        · rw [c3, ← c11, k4]
      · refine r_aldn X (dat D_Circuit_keep 7 rfl) rfl 1 rfl ?_
        refine r_callV (NW := 2) (As := []) (st := []) X hw m_Circuit_57 (c_room l b BC BS _ _ h D B1 B2 hB1 hB2 k1 k2 k11 (by omega)) (dat D_Circuit_keep 8 rfl) [0] [1] rfl (by decide +kernel) rfl rfl (hw.recv X 0 0 rfl (circ0 b h D).choose_spec k_Circuit) rfl rfl (Nat.le_of_ble_eq_true rfl) ⟨by decide, by decide⟩ (fun r D1 sz_3 sl_3 H lo hp hw => ?_)
        obtain ⟨rfl, hlen1, hb1, hlt1, hu1, hk1, hj1, hs1, hls1, hp1, hg1⟩ := hp
        refine r_st (st' := []) rfl ?_
        have hw : Wd b BC BS sl s A [circW b h D1, [cN b ra rl rf]] sz_3 sl_3 H lo := hw
        obtain ⟨⟨a0, n0, f0⟩, ⟨a1, n1, f1⟩, ⟨a2, n2, f2⟩, ⟨a3, n3, f3⟩, ⟨a4, n4, f4⟩, ⟨a5, n5, f5⟩, ⟨a6, n6, f6⟩, ⟨a7, n7, f7⟩, ⟨a8, n8, f8⟩, u, k, v⟩ := D1
        dsimp only [cLen, cPhi, cBud, SameG, cU_mk, cK_mk, cV_mk, fL_mk, fS_mk, fC_mk, fN_mk, fP_mk, fF_mk, fG_mk, fH_mk, fD_mk, lL_mk, lS_mk, lP_mk, lF_mk] at hlen1 hb1 hlt1 hu1 hk1 hj1 hs1 hls1 hp1 hg1
        obtain ⟨rfl, rfl, rfl, rfl, rfl, p0, p1, p4, p5, g0, g1, g4, g5⟩ := hlen1
        have q0 := p0.le
        have q1 := p1.le
        have q5 := p5.le
        have hw : Wd b BC BS sl s A [[cO h 2 [.ref a0, .ref a1, .int (nI u), .int (nI k), .int (nI v), .ref a2, .ref a3, .ref a4, .ref a5, .ref a6, .ref a7, .ref a8]], [cN b a0 n0 f0], [cN b a1 n1 f1], [cN b a2 n0 f2], [cN b a3 n0 f3], [cN b a4 n4 f4], [cN b a5 n5 f5], [cN b a6 n5 f6], [cN b a7 n5 f7], [cN b a8 257 f8], [cN b ra rl rf]] sz_3 sl_3 H lo := hw.re rfl
        refine r_aldn X (dat D_Circuit_keep 9 rfl) rfl 1 rfl ?_
        refine r_get X hw f_Circuit_9 (dat D_Circuit_keep 10 rfl) 0 0 rfl rfl rfl ?_
        refine r_aldn X (dat D_Circuit_keep 11 rfl) rfl 1 rfl ?_
        refine r_get X hw f_Circuit_39 (dat D_Circuit_keep 12 rfl) 0 0 rfl rfl rfl ?_
        refine r_aldn X (dat D_Circuit_keep 13 rfl) rfl 2 rfl ?_
        refine r_ildn X (dat D_Circuit_keep 14 rfl) rfl 0 rfl ?_
        refine r_ialdN X hw (dat D_Circuit_keep 15 rfl) 10 0 rfl rfl (by omega) (by omega) ?_
        refine r_iastN (Ws' := [[cO h 2 [.ref a0, .ref a1, .int (nI u), .int (nI k), .int (nI v), .ref a2, .ref a3, .ref a4, .ref a5, .ref a6, .ref a7, .ref a8]], [cN b a0 n0 (va_up f0 u (rf i))], [cN b a1 n1 f1], [cN b a2 n0 f2], [cN b a3 n0 f3], [cN b a4 n4 f4], [cN b a5 n5 f5], [cN b a6 n5 f6], [cN b a7 n5 f7], [cN b a8 257 f8], [cN b ra rl rf]]) X hw (dat D_Circuit_keep 16 rfl) 1 0 rfl rfl (by omega) (by omega) rfl (fun H lo hw => ?_)
        refine r_aldn X (dat D_Circuit_keep 17 rfl) rfl 1 rfl ?_
        refine r_dup X (dat D_Circuit_keep 18 rfl) rfl ?_
        refine r_get X hw f_Circuit_39 (dat D_Circuit_keep 19 rfl) 0 0 rfl rfl rfl ?_
        refine r_iconst (v := nI 1) X (dat D_Circuit_keep 20 rfl) rfl ?_
        refine r_iadd (z := nI (u + 1)) X (dat D_Circuit_keep 21 rfl) (nI_add _ _) ?_
        refine r_put (Ws' := [[cO h 2 [.ref a0, .ref a1, .int (nI (u + 1)), .int (nI k), .int (nI v), .ref a2, .ref a3, .ref a4, .ref a5, .ref a6, .ref a7, .ref a8]], [cN b a0 n0 (va_up f0 u (rf i))], [cN b a1 n1 f1], [cN b a2 n0 f2], [cN b a3 n0 f3], [cN b a4 n4 f4], [cN b a5 n5 f5], [cN b a6 n5 f6], [cN b a7 n5 f7], [cN b a8 257 f8], [cN b ra rl rf]]) X hw f_Circuit_39 (dat D_Circuit_keep 22 rfl) 0 0 rfl rfl rfl rfl rfl (Nat.le_of_ble_eq_true rfl) rfl (fun H lo hw => ?_)
        refine r_iinc (j := 0) (v := nI (i + 1)) (L' := [(3, .int (nI (i + 1))), (0, .ref h), (1, .ref ra), (2, .int (nI n))]) X (dat D_Circuit_keep 23 rfl) rfl (nI_add _ 1) (by decide) rfl ?_
        refine r_goto (tgt := 6) X (dat D_Circuit_keep 24 rfl) rfl ?_
        have hw : Wd b BC BS sl s A [circW b h ((a0, n0, va_up f0 u (rf i)), (a1, n1, f1), (a2, n0, f2), (a3, n0, f3), (a4, n4, f4), (a5, n5, f5), (a6, n5, f6), (a7, n5, f7), (a8, 257, f8), u + 1, k, v), [cN b ra rl rf]] sz_3 sl_3 H lo := hw.re rfl
        refine ih (i + 1) ((a0, n0, va_up f0 u (rf i)), (a1, n1, f1), (a2, n0, f2), (a3, n0, f3), (a4, n4, f4), (a5, n5, f5), (a6, n5, f6), (a7, n5, f7), (a8, 257, f8), u + 1, k, v) _ _ H lo (by omega) (by omega) ⟨⟨rfl, rfl, rfl, rfl, rfl, p0, p1, p4, p5, g0, g1, g4, g5⟩, hb1, ?_, ?_, fun j hj => ?_, fun j hj => ?_, fun j hj => ?_, ?_, ?_, fun a => ?_, ?_, ?_⟩ hw
        · show u + 1 = cU C + (i + 1)
          omega
        · exact hk1.trans k4
        · have e1 := hj1 j (by omega)
          have e2 := k5 j hj
          exact ⟨(up_n (by omega)).trans (e1.1.trans e2.1), e1.2.1.trans e2.2.1, e1.2.2.trans e2.2.2⟩
        · by_cases e : j = i
          · subst e
            show va_up f0 u (rf j) (cU C + j) = rf j
            rw [show cU C + j = u by omega]
            exact up_s
          · exact (up_n (by omega)).trans ((hj1 _ (by omega)).1.trans (k6 j (by omega)))
        · show f1 j = _
          rw [hs1]
          exact k7 j hj
        · show f1 _ = _
          rw [hs1]
          exact k8
        · show _ ≤ n1
          rw [hls1]
          exact k9
        · exact (hp1 a).trans (k10 a)
        · show u + 1 ≤ n0
          omega
        · exact k12.trans hg1
  exact J (n + 1) 0 D _ _ H lo (by omega) (by omega) hI hw
set_option maxHeartbeats 4000000 in
set_option maxRecDepth 100000 in
/-- a new circuit: only the literal true -/
theorem c_begin (l : Launch) (b : BK) (BC BS sz sl : Nat) (h : Nat) (C : CT) (B1 B2 : Nat) (hB1 : B1 ≤ BS) (hB2 : B2 ≤ BC) (hlen : cLen C) (hb : cBud B1 B2 C sz sl) : Con l b y_Circuit_begin b_Circuit_begin 2 none 5 150 BC BS sz sl [.ref h] [circW b h C] (S := CT) (fun r sz' sl' C' => r = none ∧ cLen C' ∧ cBud B1 B2 C' sz' sl' ∧ cU C' = 1 ∧ cK C' = 1 ∧ cV C' = 16 ∧ fL C' 0 = 0 ∧ fC C' 0 = 0 ∧ fS C' 0 = 0 ∧ fS C' 1 = 1 ∧ (∀ j, j < 257 → fD C' j = 0) ∧ Occ 1 C') (fun C' => [circW b h C']) := by
  obtain ⟨⟨a0, n0, f0⟩, ⟨a1, n1, f1⟩, ⟨a2, n2, f2⟩, ⟨a3, n3, f3⟩, ⟨a4, n4, f4⟩, ⟨a5, n5, f5⟩, ⟨a6, n6, f6⟩, ⟨a7, n7, f7⟩, ⟨a8, n8, f8⟩, u, k, v⟩ := C
  dsimp only [cLen, cPhi, cBud, SameG, cU_mk, cK_mk, cV_mk, fL_mk, fS_mk, fC_mk, fN_mk, fP_mk, fF_mk, fG_mk, fH_mk, fD_mk, lL_mk, lS_mk, lP_mk, lF_mk] at hlen hb
  obtain ⟨rfl, rfl, rfl, rfl, rfl, p0, p1, p4, p5, g0, g1, g4, g5⟩ := hlen
  have q0 := p0.le
  have q1 := p1.le
  have q4 := p4.le
  have q5 := p5.le
  refine con_of (L0 := [(0, .ref h)]) (by decide) (Nat.le_of_ble_eq_true rfl) rfl ?_
  intro p e R s m args below meth c Q A H lo X hini hw RT
  have X : Ctx p R s m args meth c b_Circuit_begin 2 "LoopProver$Circuit" b BC BS sl 5 150 := X
  have hw : Wd b BC BS sl s A [[cO h 2 [.ref a0, .ref a1, .int (nI u), .int (nI k), .int (nI v), .ref a2, .ref a3, .ref a4, .ref a5, .ref a6, .ref a7, .ref a8]], [cN b a0 n0 f0], [cN b a1 n1 f1], [cN b a2 n0 f2], [cN b a3 n0 f3], [cN b a4 n4 f4], [cN b a5 n5 f5], [cN b a6 n5 f6], [cN b a7 n5 f7], [cN b a8 257 f8]] sz sl H lo := hw.re rfl
  refine r_aldn X (dat D_Circuit_begin 0 rfl) rfl 0 rfl ?_
  refine r_iconst (v := nI 0) X (dat D_Circuit_begin 1 rfl) rfl ?_
  refine r_put (Ws' := [[cO h 2 [.ref a0, .ref a1, .int (nI 0), .int (nI k), .int (nI v), .ref a2, .ref a3, .ref a4, .ref a5, .ref a6, .ref a7, .ref a8]], [cN b a0 n0 f0], [cN b a1 n1 f1], [cN b a2 n0 f2], [cN b a3 n0 f3], [cN b a4 n4 f4], [cN b a5 n5 f5], [cN b a6 n5 f6], [cN b a7 n5 f7], [cN b a8 257 f8]]) X hw f_Circuit_39 (dat D_Circuit_begin 2 rfl) 0 0 rfl rfl rfl rfl rfl (Nat.le_of_ble_eq_true rfl) rfl (fun H lo hw => ?_)
  refine r_aldn X (dat D_Circuit_begin 3 rfl) rfl 0 rfl ?_
  refine r_iconst (v := nI 0) X (dat D_Circuit_begin 4 rfl) rfl ?_
  refine r_put (Ws' := [[cO h 2 [.ref a0, .ref a1, .int (nI 0), .int (nI 0), .int (nI v), .ref a2, .ref a3, .ref a4, .ref a5, .ref a6, .ref a7, .ref a8]], [cN b a0 n0 f0], [cN b a1 n1 f1], [cN b a2 n0 f2], [cN b a3 n0 f3], [cN b a4 n4 f4], [cN b a5 n5 f5], [cN b a6 n5 f6], [cN b a7 n5 f7], [cN b a8 257 f8]]) X hw f_Circuit_43 (dat D_Circuit_begin 5 rfl) 0 0 rfl rfl rfl rfl rfl (Nat.le_of_ble_eq_true rfl) rfl (fun H lo hw => ?_)
  refine r_aldn X (dat D_Circuit_begin 6 rfl) rfl 0 rfl ?_
  refine r_bipush (v := nI 16) X (dat D_Circuit_begin 7 rfl) (by decide) ?_
  refine r_put (Ws' := [[cO h 2 [.ref a0, .ref a1, .int (nI 0), .int (nI 0), .int (nI 16), .ref a2, .ref a3, .ref a4, .ref a5, .ref a6, .ref a7, .ref a8]], [cN b a0 n0 f0], [cN b a1 n1 f1], [cN b a2 n0 f2], [cN b a3 n0 f3], [cN b a4 n4 f4], [cN b a5 n5 f5], [cN b a6 n5 f6], [cN b a7 n5 f7], [cN b a8 257 f8]]) X hw f_Circuit_46 (dat D_Circuit_begin 8 rfl) 0 0 rfl rfl rfl rfl rfl (Nat.le_of_ble_eq_true rfl) rfl (fun H lo hw => ?_)
  refine r_iconst (v := nI 0) X (dat D_Circuit_begin 9 rfl) rfl ?_
  refine r_istn (L' := [(1, .int (nI 0)), (0, .ref h)]) X (dat D_Circuit_begin 10 rfl) rfl (by decide) rfl ?_
  have J : ∀ (NN : Nat) (i : Nat) (g8 : Nat → Nat) (H : Heap) (lo : List Loc), 257 - i < NN → (i ≤ 257) → (∀ j, j < i → g8 j = 0) → Wd b BC BS sl s A [[cO h 2 [.ref a0, .ref a1, .int (nI 0), .int (nI 0), .int (nI 16), .ref a2, .ref a3, .ref a4, .ref a5, .ref a6, .ref a7, .ref a8]], [cN b a0 n0 f0], [cN b a1 n1 f1], [cN b a2 n0 f2], [cN b a3 n0 f3], [cN b a4 n4 f4], [cN b a5 n5 f5], [cN b a6 n5 f6], [cN b a7 n5 f7], [cN b a8 257 g8]] sz sl H lo → V p l e R s m args below meth c Q 2 H lo 18 [(1, .int (nI i)), (0, .ref h)] [] := by
    intro NN
    induction NN with
    | zero =>
      intro i g8 H lo hNN
      exact absurd hNN (by omega)
    | succ NN ih =>
      intro i g8 H lo hNN hi hz hw
      refine r_ildn X (dat D_Circuit_begin 11 rfl) rfl 0 rfl ?_
      refine r_sipush (v := nI 257) X (dat D_Circuit_begin 12 rfl) (by decide) ?_
      refine r_icmpge (tgt := 38) X (nI_leI (by omega) (by omega)) (dat D_Circuit_begin 13 rfl) rfl (fun hc => ?_) (fun hc => ?_)
      · have hi7 : i = 257 := by omega
        subst hi7
        refine r_iconst (v := nI 0) X (dat D_Circuit_begin 21 rfl) rfl ?_
        refine r_istn (L' := [(1, .int (nI 0)), (0, .ref h)]) X (dat D_Circuit_begin 22 rfl) rfl (by decide) rfl ?_
        have J2 : ∀ (NN : Nat) (i2 : Nat) (g4' : Nat → Nat) (H : Heap) (lo : List Loc), n4 - i2 < NN → (i2 ≤ n4) → (∀ j, j < i2 → g4' j = 0) → Wd b BC BS sl s A [[cO h 2 [.ref a0, .ref a1, .int (nI 0), .int (nI 0), .int (nI 16), .ref a2, .ref a3, .ref a4, .ref a5, .ref a6, .ref a7, .ref a8]], [cN b a0 n0 f0], [cN b a1 n1 f1], [cN b a2 n0 f2], [cN b a3 n0 f3], [cN b a4 n4 g4'], [cN b a5 n5 f5], [cN b a6 n5 f6], [cN b a7 n5 f7], [cN b a8 257 g8]] sz sl H lo → V p l e R s m args below meth c Q 2 H lo 40 [(1, .int (nI i2)), (0, .ref h)] [] := by
          intro NN
          induction NN with
          | zero =>
            intro i2 g4' H lo hNN
            exact absurd hNN (by omega)
          | succ NN ih =>
            intro i2 g4' H lo hNN hi2 hz2 hw
            refine r_ildn X (dat D_Circuit_begin 23 rfl) rfl 0 rfl ?_
            refine r_aldn X (dat D_Circuit_begin 24 rfl) rfl 1 rfl ?_
            refine r_get X hw f_Circuit_24 (dat D_Circuit_begin 25 rfl) 0 0 rfl rfl rfl ?_
            refine r_alen X hw (dat D_Circuit_begin 26 rfl) 5 0 0 rfl rfl rfl ?_
            refine r_icmpge (tgt := 62) X (nI_leI (by omega) (by omega)) (dat D_Circuit_begin 27 rfl) rfl (fun hc2 => ?_) (fun hc2 => ?_)
            · refine r_aldn X (dat D_Circuit_begin 35 rfl) rfl 1 rfl ?_
              refine r_iconst (v := nI 0) X (dat D_Circuit_begin 36 rfl) rfl ?_
              refine r_iconst (v := iI (-1)) X (dat D_Circuit_begin 37 rfl) rfl ?_
              refine r_iconst (v := iI (-1)) X (dat D_Circuit_begin 38 rfl) rfl ?_
              have hw : Wd b BC BS sl s A [circW b h ((a0, n0, f0), (a1, n1, f1), (a2, n0, f2), (a3, n0, f3), (a4, n4, g4'), (a5, n5, f5), (a6, n5, f6), (a7, n5, f7), (a8, 257, g8), 0, 0, 16)] sz sl H lo := hw.re rfl
              have hocc : Occ (cU ((a0, n0, f0), (a1, n1, f1), (a2, n0, f2), (a3, n0, f3), (a4, n4, g4'), (a5, n5, f5), (a6, n5, f6), (a7, n5, f7), (a8, 257, g8), 0, 0, 16)) ((a0, n0, f0), (a1, n1, f1), (a2, n0, f2), (a3, n0, f3), (a4, n4, g4'), (a5, n5, f5), (a6, n5, f6), (a7, n5, f7), (a8, 257, g8), 0, 0, 16) := ⟨fun a => by
                show (if a < n4 then g4' a else 0) = 0
                by_cases e : a < n4
                · rw [if_pos e]; exact hz2 a (by omega)
                · rw [if_neg e], fun j hj => absurd hj (Nat.not_lt_zero j)⟩
              refine r_callV (NW := 1) (As := [.int (nI 0), .int (iI (-1)), .int (iI (-1))]) (st := []) X hw m_Circuit_49 (c_add l b BC BS _ _ h ((a0, n0, f0), (a1, n1, f1), (a2, n0, f2), (a3, n0, f3), (a4, n4, g4'), (a5, n5, f5), (a6, n5, f6), (a7, n5, f7), (a8, 257, g8), 0, 0, 16) 0 (-1) (-1) [0] (by simp) B1 B2 hB1 hB2 ⟨rfl, rfl, rfl, rfl, rfl, p0, p1, p4, p5, g0, g1, g4, g5⟩ hb (Nat.zero_le _) (by show 0 + 3 ≤ 524288; omega) (by show 0 + 1 ≤ n1; omega) (by show 0 + 2 ≤ 262144; omega) (by omega) (by omega) (by omega) hocc) (dat D_Circuit_begin 39 rfl) [0] [] rfl (by decide +kernel) rfl rfl (hw.recv X 0 0 rfl (circ0 b h ((a0, n0, f0), (a1, n1, f1), (a2, n0, f2), (a3, n0, f3), (a4, n4, g4'), (a5, n5, f5), (a6, n5, f6), (a7, n5, f7), (a8, 257, g8), 0, 0, 16)).choose_spec k_Circuit) rfl rfl (Nat.le_of_ble_eq_true rfl) ⟨by decide, by decide⟩ (fun r D sz_1 sl_1 H lo hp hw => ?_)
              obtain ⟨rfl, d1, d2, ⟨r1, r2, r3, r4, r5, r6, r7, r8⟩, d4, d5, d6⟩ := hp
              refine r_st (st' := []) rfl ?_
              have hw : Wd b BC BS sl s A [circW b h D] sz_1 sl_1 H lo := hw
              have e0 := r4 0 (by decide)
              rw [r1] at d6
              refine r_vret RT (dat D_Circuit_begin 40 rfl) D ⟨rfl, d1, d2, r1, r2, r8.1, e0.1, e0.2, r6, r7.trans r1, fun j hj => ?_, d6⟩ hw
              rw [r8.2.2.2.2.1]
              exact hz j hj
            · refine r_aldn X (dat D_Circuit_begin 28 rfl) rfl 1 rfl ?_
              refine r_get X hw f_Circuit_24 (dat D_Circuit_begin 29 rfl) 0 0 rfl rfl rfl ?_
              refine r_ildn X (dat D_Circuit_begin 30 rfl) rfl 0 rfl ?_
              refine r_iconst (v := nI 0) X (dat D_Circuit_begin 31 rfl) rfl ?_
              refine r_iastN (Ws' := [[cO h 2 [.ref a0, .ref a1, .int (nI 0), .int (nI 0), .int (nI 16), .ref a2, .ref a3, .ref a4, .ref a5, .ref a6, .ref a7, .ref a8]], [cN b a0 n0 f0], [cN b a1 n1 f1], [cN b a2 n0 f2], [cN b a3 n0 f3], [cN b a4 n4 (va_up g4' i2 0)], [cN b a5 n5 f5], [cN b a6 n5 f6], [cN b a7 n5 f7], [cN b a8 257 g8]]) X hw (dat D_Circuit_begin 32 rfl) 5 0 rfl rfl (by omega) (by omega) rfl (fun H lo hw => ?_)
              refine r_iinc (j := 0) (v := nI (i2 + 1)) (L' := [(1, .int (nI (i2 + 1))), (0, .ref h)]) X (dat D_Circuit_begin 33 rfl) rfl (nI_add _ 1) (by decide) rfl ?_
              refine r_goto (tgt := 40) X (dat D_Circuit_begin 34 rfl) rfl ?_
              exact ih (i2 + 1) _ H lo (by omega) (by omega) (fun j hj => by
                by_cases e : j = i2
                · subst e; exact up_s
                · exact (up_n e).trans (hz2 j (by omega))) hw
        exact J2 (n4 + 1) 0 f4 H lo (by omega) (by omega) (fun j hj => absurd hj (Nat.not_lt_zero j)) hw
      · refine r_aldn X (dat D_Circuit_begin 14 rfl) rfl 1 rfl ?_
        refine r_get X hw f_Circuit_36 (dat D_Circuit_begin 15 rfl) 0 0 rfl rfl rfl ?_
        refine r_ildn X (dat D_Circuit_begin 16 rfl) rfl 0 rfl ?_
        refine r_iconst (v := nI 0) X (dat D_Circuit_begin 17 rfl) rfl ?_
        refine r_iastN (Ws' := [[cO h 2 [.ref a0, .ref a1, .int (nI 0), .int (nI 0), .int (nI 16), .ref a2, .ref a3, .ref a4, .ref a5, .ref a6, .ref a7, .ref a8]], [cN b a0 n0 f0], [cN b a1 n1 f1], [cN b a2 n0 f2], [cN b a3 n0 f3], [cN b a4 n4 f4], [cN b a5 n5 f5], [cN b a6 n5 f6], [cN b a7 n5 f7], [cN b a8 257 (va_up g8 i 0)]]) X hw (dat D_Circuit_begin 18 rfl) 9 0 rfl rfl (by omega) (by omega) rfl (fun H lo hw => ?_)
        refine r_iinc (j := 0) (v := nI (i + 1)) (L' := [(1, .int (nI (i + 1))), (0, .ref h)]) X (dat D_Circuit_begin 19 rfl) rfl (nI_add _ 1) (by decide) rfl ?_
        refine r_goto (tgt := 18) X (dat D_Circuit_begin 20 rfl) rfl ?_
        exact ih (i + 1) _ H lo (by omega) (by omega) (fun j hj => by
          by_cases e : j = i
          · subst e; exact up_s
          · exact (up_n e).trans (hz j (by omega))) hw
  exact J 258 0 f8 H lo (by omega) (by omega) (fun j hj => absurd hj (Nat.not_lt_zero j)) hw
theorem pw_a : Pw 1024 524288 := ⟨9, rfl⟩
theorem pw_b : Pw 512 262144 := ⟨9, rfl⟩
theorem pw_c : Pw 512 131072 := ⟨8, rfl⟩
theorem pw_d : Pw 256 65536 := ⟨8, rfl⟩
set_option maxHeartbeats 4000000 in
set_option maxRecDepth 100000 in
/-- the arrays as they are made -/
theorem c_Circuit_init (l : Launch) (b : BK) (BC BS sz sl : Nat) (h : Nat) (hc : sz + 9 ≤ BC) (hs : sl + 5121 ≤ BS) : Con l b y_Circuit_init b_Circuit_init 1 none 1 20 BC BS sz sl [.ref h] [[cO h 2 [.null, .null, .int (nI 0), .int (nI 0), .int (nI 0), .null, .null, .null, .null, .null, .null, .null]]] (S := CT) (fun r sz' sl' C' => r = none ∧ sz' = sz + 9 ∧ sl' = sl + 5121 ∧ cLen C' ∧ cPhi C' = 2 * 4864) (fun C' => [circW b h C']) := by
  refine con_of (L0 := [(0, .ref h)]) (by decide) (Nat.le_of_ble_eq_true rfl) rfl ?_
  intro p e R s m args below meth c Q A H lo X hini hw RT
  have X : Ctx p R s m args meth c b_Circuit_init 1 "LoopProver$Circuit" b BC BS sl 1 20 := X
  have hw : Wd b BC BS sl s A [[cO h 2 [.null, .null, .int (nI 0), .int (nI 0), .int (nI 0), .null, .null, .null, .null, .null, .null, .null]]] sz sl H lo := hw
  refine r_aldn X (dat D_Circuit_init 0 rfl) rfl 0 rfl ?_
  refine r_objInit X m_Circuit_3 (dat D_Circuit_init 1 rfl) (Nat.le_of_ble_eq_true rfl) (by decide) ?_
  refine r_aldn X (dat D_Circuit_init 2 rfl) rfl 0 rfl ?_
  refine r_sipush (v := nI 1024) X (dat D_Circuit_init 3 rfl) (by decide) ?_
  refine r_newN X hw ac_int (dat D_Circuit_init 4 rfl) (by omega) (by omega) (by omega) (fun H hw => ?_)
  have hw : Wd b BC BS sl s A [[cO h 2 [.null, .null, .int (nI 0), .int (nI 0), .int (nI 0), .null, .null, .null, .null, .null, .null, .null]], [cN b sz 1024 (fun _ => 0)]] (sz + 1) (sl + 1024) H lo := hw
  generalize hz1 : sz + 1 = z1 at hw
  generalize hq1 : sl + 1024 = q1 at hw
  refine r_put (Ws' := [[cO h 2 [.ref sz, .null, .int (nI 0), .int (nI 0), .int (nI 0), .null, .null, .null, .null, .null, .null, .null]], [cN b sz 1024 (fun _ => 0)]]) X hw f_Circuit_9 (dat D_Circuit_init 5 rfl) 0 0 rfl rfl rfl rfl rfl (Nat.le_of_ble_eq_true rfl) rfl (fun H lo hw => ?_)
  refine r_aldn X (dat D_Circuit_init 6 rfl) rfl 0 rfl ?_
  refine r_sipush (v := nI 512) X (dat D_Circuit_init 7 rfl) (by decide) ?_
  refine r_newN X hw ac_int (dat D_Circuit_init 8 rfl) (by omega) (by omega) (by omega) (fun H hw => ?_)
  have hw : Wd b BC BS sl s A [[cO h 2 [.ref sz, .null, .int (nI 0), .int (nI 0), .int (nI 0), .null, .null, .null, .null, .null, .null, .null]], [cN b sz 1024 (fun _ => 0)], [cN b z1 512 (fun _ => 0)]] (z1 + 1) (q1 + 512) H lo := hw
  generalize hz2 : z1 + 1 = z2 at hw
  generalize hq2 : q1 + 512 = q2 at hw
  refine r_put (Ws' := [[cO h 2 [.ref sz, .ref z1, .int (nI 0), .int (nI 0), .int (nI 0), .null, .null, .null, .null, .null, .null, .null]], [cN b sz 1024 (fun _ => 0)], [cN b z1 512 (fun _ => 0)]]) X hw f_Circuit_15 (dat D_Circuit_init 9 rfl) 0 0 rfl rfl rfl rfl rfl (Nat.le_of_ble_eq_true rfl) rfl (fun H lo hw => ?_)
  refine r_aldn X (dat D_Circuit_init 10 rfl) rfl 0 rfl ?_
  refine r_sipush (v := nI 1024) X (dat D_Circuit_init 11 rfl) (by decide) ?_
  refine r_newN X hw ac_int (dat D_Circuit_init 12 rfl) (by omega) (by omega) (by omega) (fun H hw => ?_)
  have hw : Wd b BC BS sl s A [[cO h 2 [.ref sz, .ref z1, .int (nI 0), .int (nI 0), .int (nI 0), .null, .null, .null, .null, .null, .null, .null]], [cN b sz 1024 (fun _ => 0)], [cN b z1 512 (fun _ => 0)], [cN b z2 1024 (fun _ => 0)]] (z2 + 1) (q2 + 1024) H lo := hw
  generalize hz3 : z2 + 1 = z3 at hw
  generalize hq3 : q2 + 1024 = q3 at hw
  refine r_put (Ws' := [[cO h 2 [.ref sz, .ref z1, .int (nI 0), .int (nI 0), .int (nI 0), .ref z2, .null, .null, .null, .null, .null, .null]], [cN b sz 1024 (fun _ => 0)], [cN b z1 512 (fun _ => 0)], [cN b z2 1024 (fun _ => 0)]]) X hw f_Circuit_18 (dat D_Circuit_init 13 rfl) 0 0 rfl rfl rfl rfl rfl (Nat.le_of_ble_eq_true rfl) rfl (fun H lo hw => ?_)
  refine r_aldn X (dat D_Circuit_init 14 rfl) rfl 0 rfl ?_
  refine r_sipush (v := nI 1024) X (dat D_Circuit_init 15 rfl) (by decide) ?_
  refine r_newN X hw ac_int (dat D_Circuit_init 16 rfl) (by omega) (by omega) (by omega) (fun H hw => ?_)
  have hw : Wd b BC BS sl s A [[cO h 2 [.ref sz, .ref z1, .int (nI 0), .int (nI 0), .int (nI 0), .ref z2, .null, .null, .null, .null, .null, .null]], [cN b sz 1024 (fun _ => 0)], [cN b z1 512 (fun _ => 0)], [cN b z2 1024 (fun _ => 0)], [cN b z3 1024 (fun _ => 0)]] (z3 + 1) (q3 + 1024) H lo := hw
  generalize hz4 : z3 + 1 = z4 at hw
  generalize hq4 : q3 + 1024 = q4 at hw
  refine r_put (Ws' := [[cO h 2 [.ref sz, .ref z1, .int (nI 0), .int (nI 0), .int (nI 0), .ref z2, .ref z3, .null, .null, .null, .null, .null]], [cN b sz 1024 (fun _ => 0)], [cN b z1 512 (fun _ => 0)], [cN b z2 1024 (fun _ => 0)], [cN b z3 1024 (fun _ => 0)]]) X hw f_Circuit_21 (dat D_Circuit_init 17 rfl) 0 0 rfl rfl rfl rfl rfl (Nat.le_of_ble_eq_true rfl) rfl (fun H lo hw => ?_)
  refine r_aldn X (dat D_Circuit_init 18 rfl) rfl 0 rfl ?_
  refine r_sipush (v := nI 512) X (dat D_Circuit_init 19 rfl) (by decide) ?_
  refine r_newN X hw ac_int (dat D_Circuit_init 20 rfl) (by omega) (by omega) (by omega) (fun H hw => ?_)
  have hw : Wd b BC BS sl s A [[cO h 2 [.ref sz, .ref z1, .int (nI 0), .int (nI 0), .int (nI 0), .ref z2, .ref z3, .null, .null, .null, .null, .null]], [cN b sz 1024 (fun _ => 0)], [cN b z1 512 (fun _ => 0)], [cN b z2 1024 (fun _ => 0)], [cN b z3 1024 (fun _ => 0)], [cN b z4 512 (fun _ => 0)]] (z4 + 1) (q4 + 512) H lo := hw
  generalize hz5 : z4 + 1 = z5 at hw
  generalize hq5 : q4 + 512 = q5 at hw
  refine r_put (Ws' := [[cO h 2 [.ref sz, .ref z1, .int (nI 0), .int (nI 0), .int (nI 0), .ref z2, .ref z3, .ref z4, .null, .null, .null, .null]], [cN b sz 1024 (fun _ => 0)], [cN b z1 512 (fun _ => 0)], [cN b z2 1024 (fun _ => 0)], [cN b z3 1024 (fun _ => 0)], [cN b z4 512 (fun _ => 0)]]) X hw f_Circuit_24 (dat D_Circuit_init 21 rfl) 0 0 rfl rfl rfl rfl rfl (Nat.le_of_ble_eq_true rfl) rfl (fun H lo hw => ?_)
  refine r_aldn X (dat D_Circuit_init 22 rfl) rfl 0 rfl ?_
  refine r_sipush (v := nI 256) X (dat D_Circuit_init 23 rfl) (by decide) ?_
  refine r_newN X hw ac_int (dat D_Circuit_init 24 rfl) (by omega) (by omega) (by omega) (fun H hw => ?_)
  have hw : Wd b BC BS sl s A [[cO h 2 [.ref sz, .ref z1, .int (nI 0), .int (nI 0), .int (nI 0), .ref z2, .ref z3, .ref z4, .null, .null, .null, .null]], [cN b sz 1024 (fun _ => 0)], [cN b z1 512 (fun _ => 0)], [cN b z2 1024 (fun _ => 0)], [cN b z3 1024 (fun _ => 0)], [cN b z4 512 (fun _ => 0)], [cN b z5 256 (fun _ => 0)]] (z5 + 1) (q5 + 256) H lo := hw
  generalize hz6 : z5 + 1 = z6 at hw
  generalize hq6 : q5 + 256 = q6 at hw
  refine r_put (Ws' := [[cO h 2 [.ref sz, .ref z1, .int (nI 0), .int (nI 0), .int (nI 0), .ref z2, .ref z3, .ref z4, .ref z5, .null, .null, .null]], [cN b sz 1024 (fun _ => 0)], [cN b z1 512 (fun _ => 0)], [cN b z2 1024 (fun _ => 0)], [cN b z3 1024 (fun _ => 0)], [cN b z4 512 (fun _ => 0)], [cN b z5 256 (fun _ => 0)]]) X hw f_Circuit_27 (dat D_Circuit_init 25 rfl) 0 0 rfl rfl rfl rfl rfl (Nat.le_of_ble_eq_true rfl) rfl (fun H lo hw => ?_)
  refine r_aldn X (dat D_Circuit_init 26 rfl) rfl 0 rfl ?_
  refine r_sipush (v := nI 256) X (dat D_Circuit_init 27 rfl) (by decide) ?_
  refine r_newN X hw ac_int (dat D_Circuit_init 28 rfl) (by omega) (by omega) (by omega) (fun H hw => ?_)
  have hw : Wd b BC BS sl s A [[cO h 2 [.ref sz, .ref z1, .int (nI 0), .int (nI 0), .int (nI 0), .ref z2, .ref z3, .ref z4, .ref z5, .null, .null, .null]], [cN b sz 1024 (fun _ => 0)], [cN b z1 512 (fun _ => 0)], [cN b z2 1024 (fun _ => 0)], [cN b z3 1024 (fun _ => 0)], [cN b z4 512 (fun _ => 0)], [cN b z5 256 (fun _ => 0)], [cN b z6 256 (fun _ => 0)]] (z6 + 1) (q6 + 256) H lo := hw
  generalize hz7 : z6 + 1 = z7 at hw
  generalize hq7 : q6 + 256 = q7 at hw
  refine r_put (Ws' := [[cO h 2 [.ref sz, .ref z1, .int (nI 0), .int (nI 0), .int (nI 0), .ref z2, .ref z3, .ref z4, .ref z5, .ref z6, .null, .null]], [cN b sz 1024 (fun _ => 0)], [cN b z1 512 (fun _ => 0)], [cN b z2 1024 (fun _ => 0)], [cN b z3 1024 (fun _ => 0)], [cN b z4 512 (fun _ => 0)], [cN b z5 256 (fun _ => 0)], [cN b z6 256 (fun _ => 0)]]) X hw f_Circuit_30 (dat D_Circuit_init 29 rfl) 0 0 rfl rfl rfl rfl rfl (Nat.le_of_ble_eq_true rfl) rfl (fun H lo hw => ?_)
  refine r_aldn X (dat D_Circuit_init 30 rfl) rfl 0 rfl ?_
  refine r_sipush (v := nI 256) X (dat D_Circuit_init 31 rfl) (by decide) ?_
  refine r_newN X hw ac_int (dat D_Circuit_init 32 rfl) (by omega) (by omega) (by omega) (fun H hw => ?_)
  have hw : Wd b BC BS sl s A [[cO h 2 [.ref sz, .ref z1, .int (nI 0), .int (nI 0), .int (nI 0), .ref z2, .ref z3, .ref z4, .ref z5, .ref z6, .null, .null]], [cN b sz 1024 (fun _ => 0)], [cN b z1 512 (fun _ => 0)], [cN b z2 1024 (fun _ => 0)], [cN b z3 1024 (fun _ => 0)], [cN b z4 512 (fun _ => 0)], [cN b z5 256 (fun _ => 0)], [cN b z6 256 (fun _ => 0)], [cN b z7 256 (fun _ => 0)]] (z7 + 1) (q7 + 256) H lo := hw
  generalize hz8 : z7 + 1 = z8 at hw
  generalize hq8 : q7 + 256 = q8 at hw
  refine r_put (Ws' := [[cO h 2 [.ref sz, .ref z1, .int (nI 0), .int (nI 0), .int (nI 0), .ref z2, .ref z3, .ref z4, .ref z5, .ref z6, .ref z7, .null]], [cN b sz 1024 (fun _ => 0)], [cN b z1 512 (fun _ => 0)], [cN b z2 1024 (fun _ => 0)], [cN b z3 1024 (fun _ => 0)], [cN b z4 512 (fun _ => 0)], [cN b z5 256 (fun _ => 0)], [cN b z6 256 (fun _ => 0)], [cN b z7 256 (fun _ => 0)]]) X hw f_Circuit_33 (dat D_Circuit_init 33 rfl) 0 0 rfl rfl rfl rfl rfl (Nat.le_of_ble_eq_true rfl) rfl (fun H lo hw => ?_)
  refine r_aldn X (dat D_Circuit_init 34 rfl) rfl 0 rfl ?_
  refine r_sipush (v := nI 257) X (dat D_Circuit_init 35 rfl) (by decide) ?_
  refine r_newN X hw ac_int (dat D_Circuit_init 36 rfl) (by omega) (by omega) (by omega) (fun H hw => ?_)
  have hw : Wd b BC BS sl s A [[cO h 2 [.ref sz, .ref z1, .int (nI 0), .int (nI 0), .int (nI 0), .ref z2, .ref z3, .ref z4, .ref z5, .ref z6, .ref z7, .null]], [cN b sz 1024 (fun _ => 0)], [cN b z1 512 (fun _ => 0)], [cN b z2 1024 (fun _ => 0)], [cN b z3 1024 (fun _ => 0)], [cN b z4 512 (fun _ => 0)], [cN b z5 256 (fun _ => 0)], [cN b z6 256 (fun _ => 0)], [cN b z7 256 (fun _ => 0)], [cN b z8 257 (fun _ => 0)]] (z8 + 1) (q8 + 257) H lo := hw
  generalize hz9 : z8 + 1 = z9 at hw
  generalize hq9 : q8 + 257 = q9 at hw
  refine r_putF (Ws' := [[cO h 2 [.ref sz, .ref z1, .int (nI 0), .int (nI 0), .int (nI 0), .ref z2, .ref z3, .ref z4, .ref z5, .ref z6, .ref z7, .ref z8]], [cN b sz 1024 (fun _ => 0)], [cN b z1 512 (fun _ => 0)], [cN b z2 1024 (fun _ => 0)], [cN b z3 1024 (fun _ => 0)], [cN b z4 512 (fun _ => 0)], [cN b z5 256 (fun _ => 0)], [cN b z6 256 (fun _ => 0)], [cN b z7 256 (fun _ => 0)], [cN b z8 257 (fun _ => 0)]]) X (hini rfl) hw f_Circuit_36 (dat D_Circuit_init 37 rfl) 0 0 rfl rfl rfl rfl rfl rfl (Nat.le_of_ble_eq_true rfl) rfl f_Circuit_36F (fun H lo hw => ?_)
  refine r_vret RT (dat D_Circuit_init 38 rfl) ((sz, 1024, (fun _ => 0)), (z1, 512, (fun _ => 0)), (z2, 1024, (fun _ => 0)), (z3, 1024, (fun _ => 0)), (z4, 512, (fun _ => 0)), (z5, 256, (fun _ => 0)), (z6, 256, (fun _ => 0)), (z7, 256, (fun _ => 0)), (z8, 257, (fun _ => 0)), 0, 0, 0) ⟨rfl, by omega, by omega, ⟨rfl, rfl, rfl, rfl, rfl, pw_a, pw_b, pw_c, pw_d, Nat.le_refl _, Nat.le_refl _, Nat.le_refl _, Nat.le_refl _⟩, ?_⟩ ((hw.pick (NW := 10) (Ws' := [[cO h 2 [.ref sz, .ref z1, .int (nI 0), .int (nI 0), .int (nI 0), .ref z2, .ref z3, .ref z4, .ref z5, .ref z6, .ref z7, .ref z8]], [cN b sz 1024 (fun _ => 0)], [cN b z1 512 (fun _ => 0)], [cN b z2 1024 (fun _ => 0)], [cN b z3 1024 (fun _ => 0)], [cN b z4 512 (fun _ => 0)], [cN b z5 256 (fun _ => 0)], [cN b z6 256 (fun _ => 0)], [cN b z7 256 (fun _ => 0)], [cN b z8 257 (fun _ => 0)]]) [0, 1, 2, 3, 4, 5, 6, 7, 8, 9] [] rfl (by decide +kernel) rfl).re rfl)
  dsimp only [cLen, cPhi, cBud, SameG, cU_mk, cK_mk, cV_mk, fL_mk, fS_mk, fC_mk, fN_mk, fP_mk, fF_mk, fG_mk, fH_mk, fD_mk, lL_mk, lS_mk, lP_mk, lF_mk]
