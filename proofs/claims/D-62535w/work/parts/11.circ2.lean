/-! CIRCUIT, part 2: add, keep, drop, begin -/
/-- the clause at hand has the literals xs -/
def MidR (B1 B2 : Nat) (xs : List Nat) (C C' : CT) (sz sl : Nat) : Prop := cLen C' ∧ cBud B1 B2 C' sz sl ∧ cU C' = cU C + xs.length ∧ cK C' = cK C ∧ (∀ j, j < cU C → fL C' j = fL C j ∧ fC C' j = fC C j) ∧ (∀ i, i < xs.length → fL C' (cU C + i) = xs.getD i 0 ∧ fC C' (cU C + i) = cK C) ∧ (∀ j, j < cK C → fS C' j = fS C j) ∧ fS C' (cK C) = cU C ∧ cK C + 2 ≤ lS C' ∧ Occ (cU C') C' ∧ cU C' ≤ lL C' ∧ SameG C C'
/-- one more clause xs -/
def AddR (xs : List Nat) (C C' : CT) : Prop := cU C' = cU C + xs.length ∧ cK C' = cK C + 1 ∧ (∀ j, j < cU C → fL C' j = fL C j ∧ fC C' j = fC C j) ∧ (∀ i, i < xs.length → fL C' (cU C + i) = xs.getD i 0 ∧ fC C' (cU C + i) = cK C) ∧ (∀ j, j < cK C → fS C' j = fS C j) ∧ fS C' (cK C) = cU C ∧ fS C' (cK C + 1) = cU C' ∧ SameG C C'
theorem SameG.refl (C : CT) : SameG C C := ⟨rfl, rfl, rfl, rfl, rfl, rfl⟩
theorem SameG.trans {C C1 C2 : CT} (h : SameG C C1) (g : SameG C1 C2) : SameG C C2 := ⟨g.1.trans h.1, g.2.1.trans h.2.1, g.2.2.1.trans h.2.2.1, g.2.2.2.1.trans h.2.2.2.1, g.2.2.2.2.1.trans h.2.2.2.2.1, g.2.2.2.2.2.trans h.2.2.2.2.2⟩
theorem Occ_same {U : Nat} {C C' : CT} (h : Occ U C) (h1 : fL C' = fL C) (h2 : fN C' = fN C) (h3 : ∀ a, fP C' a = fP C a) : Occ U C' := ⟨fun a => by rw [h3, h1]; exact h.1 a, fun j hj => by rw [h2, h1]; exact h.2 j hj⟩
theorem Mid_put {B1 B2 x sz sl : Nat} {xs : List Nat} {C C1 C2 : CT} (h : MidR B1 B2 xs C C1 sz sl) {sz' sl' : Nat} (p1 : cLen C2) (p2 : cBud B1 B2 C2 sz' sl') (p3 : cU C2 = cU C1 + 1) (p4 : cK C2 = cK C1) (p5 : ∀ j, j < cU C1 → fL C2 j = fL C1 j ∧ fC C2 j = fC C1 j) (p6 : fL C2 (cU C1) = x) (p7 : fC C2 (cU C1) = cK C1) (p8 : fS C2 = fS C1) (p9 : lS C2 = lS C1) (p10 : cU C2 ≤ lL C2) (p11 : Occ (cU C2) C2) (p12 : SameG C1 C2) : MidR B1 B2 (xs ++ [x]) C C2 sz' sl' := by
  obtain ⟨h1, h2, h3, h4, h5, h6, h7, h8, h9, h10, h11, h12⟩ := h
  refine ⟨p1, p2, by rw [p3, h3, List.length_append]; rfl, p4.trans h4, fun j hj => ?_, fun i hi => ?_, fun j hj => by rw [p8]; exact h7 j hj, by rw [p8]; exact h8, by rw [p9]; exact h9, p11, p10, h12.trans p12⟩
  · have h := p5 j (by omega)
    exact ⟨h.1.trans (h5 j hj).1, h.2.trans (h5 j hj).2⟩
  · rw [List.length_append] at hi
    by_cases e : i < xs.length
    · have h := p5 (cU C + i) (by omega)
      have h0 := h6 i e
      refine ⟨(h.1.trans h0.1).trans ?_, h.2.trans h0.2⟩
      simp [List.getD, List.getElem?_append_left e]
    · have e2 : i = xs.length := by simp at hi; omega
      subst e2
      rw [← h3, p6, p7, h4]
      refine ⟨?_, rfl⟩
      simp [List.getD]
set_option maxHeartbeats 4000000 in
set_option maxRecDepth 100000 in
/-- a clause of one to three literals -/
theorem c_add (l : Launch) (b : BK) (BC BS sz sl : Nat) (h : Nat) (C : CT) (x : Nat) (y z : Int) (xs : List Nat) (hxs : xs = x :: ((if 0 ≤ y then [y.toNat] else []) ++ if 0 ≤ z then [z.toNat] else [])) (B1 B2 : Nat) (hB1 : B1 ≤ BS) (hB2 : B2 ≤ BC) (hlen : cLen C) (hb : cBud B1 B2 C sz sl) (hu : cU C ≤ lL C) (hu2 : cU C + 3 ≤ 524288) (hk : cK C + 1 ≤ lS C) (hk2 : cK C + 2 ≤ 262144) (hx : x < 131072) (hy : -1 ≤ y ∧ y < 131072) (hz : -1 ≤ z ∧ z < 131072) (hocc : Occ (cU C) C) : Con l b y_Circuit_add b_Circuit_add 4 none 4 120 BC BS sz sl [.ref h, .int (nI x), .int (iI y), .int (iI z)] [circW b h C] (S := CT) (fun r sz' sl' C' => r = none ∧ cLen C' ∧ cBud B1 B2 C' sz' sl' ∧ AddR xs C C' ∧ cU C' ≤ lL C' ∧ cK C' + 1 ≤ lS C' ∧ Occ (cU C') C') (fun C' => [circW b h C']) := by
  refine con_of (L0 := [(0, .ref h), (1, .int (nI x)), (2, .int (iI y)), (3, .int (iI z))]) (by decide) (Nat.le_of_ble_eq_true rfl) rfl ?_
  intro p e R s m args below meth c Q A H lo X hini hw RT
  have X : Ctx p R s m args meth c b_Circuit_add 4 "LoopProver$Circuit" b BC BS sl 4 120 := X
  have hw : Wd b BC BS sl s A [circW b h C] sz sl H lo := hw
  have J27 : ∀ (D : CT) (sz' sl' : Nat) (H : Heap) (lo : List Loc), (MidR B1 B2 xs C D sz' sl') → Wd b BC BS sl s A [circW b h D] sz' sl' H lo → V p l e R s m args below meth c Q 4 H lo 27 [(0, .ref h), (1, .int (nI x)), (2, .int (iI y)), (3, .int (iI z))] [] := by
    intro D sz' sl' H lo hm hw
    have hl3 : xs.length ≤ 3 := by rw [hxs]; simp only [List.length_cons, List.length_append]; split <;> split <;> simp
    refine r_aldn X (dat D_Circuit_add 15 rfl) rfl 0 rfl ?_
    refine r_callV (NW := 1) (As := []) (st := []) X hw m_Circuit_67 (c_close l b BC BS _ _ h D hm.1 (by rw [hm.2.2.2.1]; exact hm.2.2.2.2.2.2.2.2.1) (by have h3 := hm.2.2.1; (try simp only [List.length_nil, List.length_cons] at h3); omega)) (dat D_Circuit_add 16 rfl) [0] [] rfl (by decide +kernel) rfl rfl (hw.recv X 0 0 rfl (circ0 b h D).choose_spec k_Circuit) rfl rfl (Nat.le_of_ble_eq_true rfl) ⟨by decide, by decide⟩ (fun r D2 sz_1 sl_1 H lo hp hw => ?_)
    obtain ⟨rfl, rfl, rfl, c1, c2, c3, c4, c5, c6, c7, c8, c9, c10, c11, c12, c13⟩ := hp
    refine r_st (st' := []) rfl ?_
    have hw : Wd b BC BS sl s A [circW b h D2] sz' sl' H lo := hw
    obtain ⟨h1, h2, h3, h4, h5, h6, h7, h8, h9, h10, h11, h12⟩ := hm
    refine r_vret RT (dat D_Circuit_add 17 rfl) D2 ⟨rfl, c1, ?_, ⟨c3.trans h3, by rw [c4, h4], fun j hj => by rw [c5, c6]; exact h5 j hj, fun i hi => by rw [c5, c6]; exact h6 i hi, fun j hj => (c10 j (by omega)).trans (h7 j hj), (c10 _ (by omega)).trans h8, ?_, h12.trans c13⟩, by rw [c3, c8]; exact h11, by rw [c4, c9, h4]; exact h9, ?_⟩ hw
    · unfold cBud at h2 ⊢
      rw [c2]
      exact h2
    · rw [c3, ← c11, h4]
    · rw [c3]
      exact Occ_same h10 c5 c7 c12
  have J18 : ∀ (D : CT) (ys : List Nat) (sz' sl' : Nat) (H : Heap) (lo : List Loc), (MidR B1 B2 ys C D sz' sl') → (ys ++ (if 0 ≤ z then [z.toNat] else []) = xs) → (ys.length ≤ 2) → Wd b BC BS sl s A [circW b h D] sz' sl' H lo → V p l e R s m args below meth c Q 4 H lo 18 [(0, .ref h), (1, .int (nI x)), (2, .int (iI y)), (3, .int (iI z))] [] := by
    intro D ys sz' sl' H lo hm hys hl2 hw
    refine r_ildn X (dat D_Circuit_add 10 rfl) rfl 3 rfl ?_
    refine r_iflt (tgt := 27) X (z0_lt (by omega)) (dat D_Circuit_add 11 rfl) rfl (fun hc => ?_) (fun hc => ?_)
    · rw [if_neg (by omega), List.append_nil] at hys
      rw [hys] at hm
      exact J27 D _ _ H lo hm hw
    · obtain ⟨z', rfl⟩ := Int.eq_ofNat_of_zero_le (show 0 ≤ z by omega)
      refine r_le (L' := [(0, .ref h), (1, .int (nI x)), (2, .int (iI y)), (3, .int (nI z'))]) (rfl) ?_
      refine r_aldn X (dat D_Circuit_add 12 rfl) rfl 0 rfl ?_
      refine r_ildn X (dat D_Circuit_add 13 rfl) rfl 3 rfl ?_
      refine r_callV (NW := 1) (As := [.int (nI z')]) (st := []) X hw m_Circuit_63 (c_put l b BC BS _ _ h D z' B1 B2 hB1 hB2 hm.1 hm.2.1 hm.2.2.2.2.2.2.2.2.2.2.1 (by have h3 := hm.2.2.1; (try simp only [List.length_nil, List.length_cons] at h3); omega) (by rw [hm.2.2.2.1]; omega) (by omega) hm.2.2.2.2.2.2.2.2.2.1) (dat D_Circuit_add 14 rfl) [0] [] rfl (by decide +kernel) rfl rfl (hw.recv X 0 0 rfl (circ0 b h D).choose_spec k_Circuit) rfl rfl (Nat.le_of_ble_eq_true rfl) ⟨by decide, by decide⟩ (fun r D2 sz_2 sl_2 H lo hp hw => ?_)
      obtain ⟨rfl, p1, p2, p3, p4, p5, p6, p7, p8, p9, p10, p11, p12⟩ := hp
      refine r_st (st' := []) rfl ?_
      have hw : Wd b BC BS sl s A [circW b h D2] sz_2 sl_2 H lo := hw
      have hm2 := Mid_put hm p1 p2 p3 p4 p5 p6 p7 p8 p9 p10 p11 p12
      rw [if_pos (by omega), Int.toNat_natCast] at hys
      rw [hys] at hm2
      refine r_le (L' := [(0, .ref h), (1, .int (nI x)), (2, .int (iI y)), (3, .int (iI (z' : Int)))]) (rfl) ?_
      exact J27 D2 _ _ H lo hm2 hw
  refine r_aldn X (dat D_Circuit_add 0 rfl) rfl 0 rfl ?_
  refine r_callV (NW := 1) (As := []) (st := []) X hw m_Circuit_60 (c_open l b BC BS sz sl h C B1 B2 hB1 hB2 hlen hb hk hk2 (by omega)) (dat D_Circuit_add 1 rfl) [0] [] rfl (by decide +kernel) rfl rfl (hw.recv X 0 0 rfl (circ0 b h C).choose_spec k_Circuit) rfl rfl (Nat.le_of_ble_eq_true rfl) ⟨by decide, by decide⟩ (fun r D sz_3 sl_3 H lo hp hw => ?_)
  obtain ⟨rfl, c1, c2, c3, c4, c5, c6, c7, c8, c9, c10, c11, c12, c13⟩ := hp
  refine r_st (st' := []) rfl ?_
  have hw : Wd b BC BS sl s A [circW b h D] sz_3 sl_3 H lo := hw
  have hm : MidR B1 B2 [] C D _ _ := ⟨c1, c2, c3, c4, fun j hj => by rw [c5, c6]; exact ⟨rfl, rfl⟩, fun i hi => absurd hi (Nat.not_lt_zero i), c9, c10, c11, by rw [c3]; exact Occ_same hocc c5 c7 c12, by rw [c3, c8]; exact hu, c13⟩
  refine r_aldn X (dat D_Circuit_add 2 rfl) rfl 0 rfl ?_
  refine r_ildn X (dat D_Circuit_add 3 rfl) rfl 1 rfl ?_
  refine r_callV (NW := 1) (As := [.int (nI x)]) (st := []) X hw m_Circuit_63 (c_put l b BC BS _ _ h D x B1 B2 hB1 hB2 hm.1 hm.2.1 hm.2.2.2.2.2.2.2.2.2.2.1 (by have h3 := hm.2.2.1; (try simp only [List.length_nil, List.length_cons] at h3); omega) (by rw [hm.2.2.2.1]; omega) (by omega) hm.2.2.2.2.2.2.2.2.2.1) (dat D_Circuit_add 4 rfl) [0] [] rfl (by decide +kernel) rfl rfl (hw.recv X 0 0 rfl (circ0 b h D).choose_spec k_Circuit) rfl rfl (Nat.le_of_ble_eq_true rfl) ⟨by decide, by decide⟩ (fun r D2 sz_4 sl_4 H lo hp hw => ?_)
  obtain ⟨rfl, p1, p2, p3, p4, p5, p6, p7, p8, p9, p10, p11, p12⟩ := hp
  refine r_st (st' := []) rfl ?_
  have hw : Wd b BC BS sl s A [circW b h D2] sz_4 sl_4 H lo := hw
  have hm2 := Mid_put hm p1 p2 p3 p4 p5 p6 p7 p8 p9 p10 p11 p12
  rw [List.nil_append] at hm2
  refine r_ildn X (dat D_Circuit_add 5 rfl) rfl 2 rfl ?_
  refine r_iflt (tgt := 18) X (z0_lt (by omega)) (dat D_Circuit_add 6 rfl) rfl (fun hc => ?_) (fun hc => ?_)
  · rw [if_neg (show ¬ 0 ≤ y by omega), List.nil_append] at hxs
    exact J18 D2 [x] _ _ H lo hm2 hxs.symm (by simp) hw
  · obtain ⟨y', rfl⟩ := Int.eq_ofNat_of_zero_le (show 0 ≤ y by omega)
    skip
    refine r_le (L' := [(0, .ref h), (1, .int (nI x)), (2, .int (nI y')), (3, .int (iI z))]) (rfl) ?_
    refine r_aldn X (dat D_Circuit_add 7 rfl) rfl 0 rfl ?_
    refine r_ildn X (dat D_Circuit_add 8 rfl) rfl 2 rfl ?_
    clear hm p1 p2 p3 p4 p5 p6 p7 p8 p9 p10 p11 p12
    have hm := hm2
    clear hm2
    refine r_callV (NW := 1) (As := [.int (nI y')]) (st := []) X hw m_Circuit_63 (c_put l b BC BS _ _ h D2 y' B1 B2 hB1 hB2 hm.1 hm.2.1 hm.2.2.2.2.2.2.2.2.2.2.1 (by have h3 := hm.2.2.1; (try simp only [List.length_nil, List.length_cons] at h3); omega) (by rw [hm.2.2.2.1]; omega) (by omega) hm.2.2.2.2.2.2.2.2.2.1) (dat D_Circuit_add 9 rfl) [0] [] rfl (by decide +kernel) rfl rfl (hw.recv X 0 0 rfl (circ0 b h D2).choose_spec k_Circuit) rfl rfl (Nat.le_of_ble_eq_true rfl) ⟨by decide, by decide⟩ (fun r D3 sz_5 sl_5 H lo hp hw => ?_)
    obtain ⟨rfl, p1, p2, p3, p4, p5, p6, p7, p8, p9, p10, p11, p12⟩ := hp
    refine r_st (st' := []) rfl ?_
    have hw : Wd b BC BS sl s A [circW b h D3] sz_5 sl_5 H lo := hw
    have hm2 := Mid_put hm p1 p2 p3 p4 p5 p6 p7 p8 p9 p10 p11 p12
    rw [if_pos (show 0 ≤ (y' : Int) by omega), Int.toNat_natCast] at hxs
    refine r_le (L' := [(0, .ref h), (1, .int (nI x)), (2, .int (iI (y' : Int))), (3, .int (iI z))]) (rfl) ?_
    exact J18 D3 [x, y'] _ _ H lo hm2 (by rw [hxs]; rfl) (by simp) hw
set_option maxHeartbeats 4000000 in
set_option maxRecDepth 100000 in
/-- the last clause goes -/
theorem c_drop (l : Launch) (b : BK) (BC BS sz sl : Nat) (h : Nat) (C : CT) (hlen : cLen C) (hk0 : 1 ≤ cK C) (hk : cK C + 1 ≤ lS C) : Con l b y_Circuit_drop b_Circuit_drop 1 none 0 0 BC BS sz sl [.ref h] [circW b h C] (S := CT) (fun r sz' sl' C' => r = none ∧ sz = sz' ∧ sl = sl' ∧ C' = (C.1, C.2.1, C.2.2.1, C.2.2.2.1, C.2.2.2.2.1, C.2.2.2.2.2.1, C.2.2.2.2.2.2.1, C.2.2.2.2.2.2.2.1, C.2.2.2.2.2.2.2.2.1, fS C (cK C - 1), cK C - 1, cV C)) (fun C' => [circW b h C']) := by
  obtain ⟨⟨a0, n0, f0⟩, ⟨a1, n1, f1⟩, ⟨a2, n2, f2⟩, ⟨a3, n3, f3⟩, ⟨a4, n4, f4⟩, ⟨a5, n5, f5⟩, ⟨a6, n6, f6⟩, ⟨a7, n7, f7⟩, ⟨a8, n8, f8⟩, u, k, v⟩ := C
  dsimp only [cLen, cPhi, cBud, SameG, cU_mk, cK_mk, cV_mk, fL_mk, fS_mk, fC_mk, fN_mk, fP_mk, fF_mk, fG_mk, fH_mk, fD_mk, lL_mk, lS_mk, lP_mk, lF_mk] at hlen hk hk0
  obtain ⟨rfl, rfl, rfl, rfl, rfl, p0, p1, p4, p5, g0, g1, g4, g5⟩ := hlen
  have q0 := p0.le
  have q1 := p1.le
  have q4 := p4.le
  have q5 := p5.le
  refine con_of (L0 := [(0, .ref h)]) (by decide) (Nat.le_of_ble_eq_true rfl) rfl ?_
  intro p e R s m args below meth c Q A H lo X hini hw RT
  have X : Ctx p R s m args meth c b_Circuit_drop 1 "LoopProver$Circuit" b BC BS sl 0 0 := X
  have hw : Wd b BC BS sl s A [[cO h 2 [.ref a0, .ref a1, .int (nI u), .int (nI k), .int (nI v), .ref a2, .ref a3, .ref a4, .ref a5, .ref a6, .ref a7, .ref a8]], [cN b a0 n0 f0], [cN b a1 n1 f1], [cN b a2 n0 f2], [cN b a3 n0 f3], [cN b a4 n4 f4], [cN b a5 n5 f5], [cN b a6 n5 f6], [cN b a7 n5 f7], [cN b a8 257 f8]] sz sl H lo := hw.re rfl
  refine r_aldn X (dat D_Circuit_drop 0 rfl) rfl 0 rfl ?_
  refine r_dup X (dat D_Circuit_drop 1 rfl) rfl ?_
  refine r_get X hw f_Circuit_43 (dat D_Circuit_drop 2 rfl) 0 0 rfl rfl rfl ?_
  refine r_iconst (v := nI 1) X (dat D_Circuit_drop 3 rfl) rfl ?_
  refine r_isub (z := nI (k - 1)) X (dat D_Circuit_drop 4 rfl) (pk_sub (by omega)) ?_
  refine r_put (Ws' := [[cO h 2 [.ref a0, .ref a1, .int (nI u), .int (nI (k - 1)), .int (nI v), .ref a2, .ref a3, .ref a4, .ref a5, .ref a6, .ref a7, .ref a8]], [cN b a0 n0 f0], [cN b a1 n1 f1], [cN b a2 n0 f2], [cN b a3 n0 f3], [cN b a4 n4 f4], [cN b a5 n5 f5], [cN b a6 n5 f6], [cN b a7 n5 f7], [cN b a8 257 f8]]) X hw f_Circuit_43 (dat D_Circuit_drop 5 rfl) 0 0 rfl rfl rfl rfl rfl (Nat.le_of_ble_eq_true rfl) rfl (fun H lo hw => ?_)
  refine r_aldn X (dat D_Circuit_drop 6 rfl) rfl 0 rfl ?_
  refine r_aldn X (dat D_Circuit_drop 7 rfl) rfl 0 rfl ?_
  refine r_get X hw f_Circuit_15 (dat D_Circuit_drop 8 rfl) 0 0 rfl rfl rfl ?_
  refine r_aldn X (dat D_Circuit_drop 9 rfl) rfl 0 rfl ?_
  refine r_get X hw f_Circuit_43 (dat D_Circuit_drop 10 rfl) 0 0 rfl rfl rfl ?_
  refine r_ialdN X hw (dat D_Circuit_drop 11 rfl) 2 0 rfl rfl (by omega) (by omega) ?_
  refine r_put (Ws' := [[cO h 2 [.ref a0, .ref a1, .int (nI (f1 (k - 1))), .int (nI (k - 1)), .int (nI v), .ref a2, .ref a3, .ref a4, .ref a5, .ref a6, .ref a7, .ref a8]], [cN b a0 n0 f0], [cN b a1 n1 f1], [cN b a2 n0 f2], [cN b a3 n0 f3], [cN b a4 n4 f4], [cN b a5 n5 f5], [cN b a6 n5 f6], [cN b a7 n5 f7], [cN b a8 257 f8]]) X hw f_Circuit_39 (dat D_Circuit_drop 12 rfl) 0 0 rfl rfl rfl rfl rfl (Nat.le_of_ble_eq_true rfl) rfl (fun H lo hw => ?_)
  exact r_vret RT (dat D_Circuit_drop 13 rfl) ((a0, n0, f0), (a1, n1, f1), (a2, n0, f2), (a3, n0, f3), (a4, n4, f4), (a5, n5, f5), (a6, n5, f6), (a7, n5, f7), (a8, 257, f8), f1 (k - 1), k - 1, v) ⟨rfl, rfl, rfl, rfl⟩ ((hw.pick (NW := 10) (Ws' := [[cO h 2 [.ref a0, .ref a1, .int (nI (f1 (k - 1))), .int (nI (k - 1)), .int (nI v), .ref a2, .ref a3, .ref a4, .ref a5, .ref a6, .ref a7, .ref a8]], [cN b a0 n0 f0], [cN b a1 n1 f1], [cN b a2 n0 f2], [cN b a3 n0 f3], [cN b a4 n4 f4], [cN b a5 n5 f5], [cN b a6 n5 f6], [cN b a7 n5 f7], [cN b a8 257 f8]]) [0, 1, 2, 3, 4, 5, 6, 7, 8, 9] [] rfl (by decide +kernel) rfl).re rfl)
set_option maxHeartbeats 4000000 in
set_option maxRecDepth 100000 in
/-- the first literal of the last clause -/
theorem c_lastFirst (l : Launch) (b : BK) (BC BS sz sl : Nat) (h : Nat) (C : CT) (hlen : cLen C) (hk0 : 1 ≤ cK C) (hk : cK C + 1 ≤ lS C) (hs : fS C (cK C - 1) < lL C) : Con l b y_Circuit_lastFirst b_Circuit_lastFirst 1 (some .int) 0 0 BC BS sz sl [.ref h] [circW b h C] (S := Unit) (fun r sz' sl' _ => r = some (.int (nI (fL C (fS C (cK C - 1))))) ∧ sz = sz' ∧ sl = sl') (fun _ => [circW b h C]) := by
  obtain ⟨⟨a0, n0, f0⟩, ⟨a1, n1, f1⟩, ⟨a2, n2, f2⟩, ⟨a3, n3, f3⟩, ⟨a4, n4, f4⟩, ⟨a5, n5, f5⟩, ⟨a6, n6, f6⟩, ⟨a7, n7, f7⟩, ⟨a8, n8, f8⟩, u, k, v⟩ := C
  dsimp only [cLen, cPhi, cBud, SameG, cU_mk, cK_mk, cV_mk, fL_mk, fS_mk, fC_mk, fN_mk, fP_mk, fF_mk, fG_mk, fH_mk, fD_mk, lL_mk, lS_mk, lP_mk, lF_mk] at hlen hk hk0 hs
  obtain ⟨rfl, rfl, rfl, rfl, rfl, p0, p1, p4, p5, g0, g1, g4, g5⟩ := hlen
  have q0 := p0.le
  have q1 := p1.le
  have q4 := p4.le
  have q5 := p5.le
  refine con_of (L0 := [(0, .ref h)]) (by decide) (Nat.le_of_ble_eq_true rfl) rfl ?_
  intro p e R s m args below meth c Q A H lo X hini hw RT
  have X : Ctx p R s m args meth c b_Circuit_lastFirst 1 "LoopProver$Circuit" b BC BS sl 0 0 := X
  have hw : Wd b BC BS sl s A [[cO h 2 [.ref a0, .ref a1, .int (nI u), .int (nI k), .int (nI v), .ref a2, .ref a3, .ref a4, .ref a5, .ref a6, .ref a7, .ref a8]], [cN b a0 n0 f0], [cN b a1 n1 f1], [cN b a2 n0 f2], [cN b a3 n0 f3], [cN b a4 n4 f4], [cN b a5 n5 f5], [cN b a6 n5 f6], [cN b a7 n5 f7], [cN b a8 257 f8]] sz sl H lo := hw.re rfl
  refine r_aldn X (dat D_Circuit_lastFirst 0 rfl) rfl 0 rfl ?_
  refine r_get X hw f_Circuit_9 (dat D_Circuit_lastFirst 1 rfl) 0 0 rfl rfl rfl ?_
  refine r_aldn X (dat D_Circuit_lastFirst 2 rfl) rfl 0 rfl ?_
  refine r_get X hw f_Circuit_15 (dat D_Circuit_lastFirst 3 rfl) 0 0 rfl rfl rfl ?_
  refine r_aldn X (dat D_Circuit_lastFirst 4 rfl) rfl 0 rfl ?_
  refine r_get X hw f_Circuit_43 (dat D_Circuit_lastFirst 5 rfl) 0 0 rfl rfl rfl ?_
  refine r_iconst (v := nI 1) X (dat D_Circuit_lastFirst 6 rfl) rfl ?_
  refine r_isub (z := nI (k - 1)) X (dat D_Circuit_lastFirst 7 rfl) (pk_sub (by omega)) ?_
  refine r_ialdN X hw (dat D_Circuit_lastFirst 8 rfl) 2 0 rfl rfl (by omega) (by omega) ?_
  refine r_ialdN X hw (dat D_Circuit_lastFirst 9 rfl) 1 0 rfl rfl (by omega) (by omega) ?_
  exact r_iret RT (dat D_Circuit_lastFirst 10 rfl) () ⟨rfl, rfl, rfl⟩ ((hw.pick (NW := 10) (Ws' := [[cO h 2 [.ref a0, .ref a1, .int (nI u), .int (nI k), .int (nI v), .ref a2, .ref a3, .ref a4, .ref a5, .ref a6, .ref a7, .ref a8]], [cN b a0 n0 f0], [cN b a1 n1 f1], [cN b a2 n0 f2], [cN b a3 n0 f3], [cN b a4 n4 f4], [cN b a5 n5 f5], [cN b a6 n5 f6], [cN b a7 n5 f7], [cN b a8 257 f8]]) [0, 1, 2, 3, 4, 5, 6, 7, 8, 9] [] rfl (by decide +kernel) rfl).re rfl)
set_option maxHeartbeats 4000000 in
set_option maxRecDepth 100000 in
/-- more room for gates -/
theorem c_grow (l : Launch) (b : BK) (BC BS sz sl : Nat) (h : Nat) (C : CT) (B1 B2 : Nat) (hB1 : B1 ≤ BS) (hB2 : B2 ≤ BC) (hlen : cLen C) (hb : cBud B1 B2 C sz sl) (hf : lF C < 65536) : Con l b y_Circuit_grow b_Circuit_grow 1 none 2 60 BC BS sz sl [.ref h] [circW b h C] (S := CT) (fun r sz' sl' C' => r = none ∧ cLen C' ∧ cBud B1 B2 C' sz' sl' ∧ lF C' = 2 * lF C ∧ (∀ j, j < lF C → fF C' j = fF C j ∧ fG C' j = fG C j ∧ fH C' j = fH C j) ∧ fD C' = fD C ∧ cV C' = cV C ∧ cU C' = cU C ∧ cK C' = cK C ∧ fL C' = fL C ∧ fC C' = fC C ∧ fN C' = fN C ∧ fS C' = fS C ∧ lL C' = lL C ∧ lS C' = lS C ∧ ∀ a, fP C' a = fP C a) (fun C' => [circW b h C']) := by
  obtain ⟨⟨a0, n0, f0⟩, ⟨a1, n1, f1⟩, ⟨a2, n2, f2⟩, ⟨a3, n3, f3⟩, ⟨a4, n4, f4⟩, ⟨a5, n5, f5⟩, ⟨a6, n6, f6⟩, ⟨a7, n7, f7⟩, ⟨a8, n8, f8⟩, u, k, v⟩ := C
  dsimp only [cLen, cPhi, cBud, SameG, cU_mk, cK_mk, cV_mk, fL_mk, fS_mk, fC_mk, fN_mk, fP_mk, fF_mk, fG_mk, fH_mk, fD_mk, lL_mk, lS_mk, lP_mk, lF_mk] at hlen hb hf
  obtain ⟨rfl, rfl, rfl, rfl, rfl, p0, p1, p4, p5, g0, g1, g4, g5⟩ := hlen
  have q0 := p0.le
  have q1 := p1.le
  have q4 := p4.le
  have q5 := p5.le
  refine con_of (L0 := [(0, .ref h)]) (by decide) (Nat.le_of_ble_eq_true rfl) rfl ?_
  intro p e R s m args below meth c Q A H lo X hini hw RT
  have X : Ctx p R s m args meth c b_Circuit_grow 1 "LoopProver$Circuit" b BC BS sl 2 60 := X
  have hw : Wd b BC BS sl s A [[cO h 2 [.ref a0, .ref a1, .int (nI u), .int (nI k), .int (nI v), .ref a2, .ref a3, .ref a4, .ref a5, .ref a6, .ref a7, .ref a8]], [cN b a0 n0 f0], [cN b a1 n1 f1], [cN b a2 n0 f2], [cN b a3 n0 f3], [cN b a4 n4 f4], [cN b a5 n5 f5], [cN b a6 n5 f6], [cN b a7 n5 f7], [cN b a8 257 f8]] sz sl H lo := hw.re rfl
  have hd := p5.le2 hf
  refine r_aldn X (dat D_Circuit_grow 0 rfl) rfl 0 rfl ?_
  refine r_aldn X (dat D_Circuit_grow 1 rfl) rfl 0 rfl ?_
  refine r_get X hw f_Circuit_27 (dat D_Circuit_grow 2 rfl) 0 0 rfl rfl rfl ?_
  refine r_callS (NW := 10) (As := [.ref a5]) (st := [.ref h]) X hw m_Circuit_53 (c_longer l b BC BS sz sl a5 n5 f5 (by omega) (by omega) (by omega)) (dat D_Circuit_grow 3 rfl) [6] [0, 1, 2, 3, 4, 5, 7, 8, 9] rfl (by decide +kernel) rfl rfl rfl rfl (Nat.le_of_ble_eq_true rfl) ⟨by decide, by decide⟩ (fun r x5 sz_1 sl_1 H lo hp hw => ?_)
  obtain ⟨rfl, rfl, rfl, hx5⟩ := hp
  refine r_st (st' := [.ref sz, .ref h]) rfl ?_
  have hw : Wd b BC BS sl s A [[cN b a5 n5 f5], [cN b sz (2 * n5) x5], [cO h 2 [.ref a0, .ref a1, .int (nI u), .int (nI k), .int (nI v), .ref a2, .ref a3, .ref a4, .ref a5, .ref a6, .ref a7, .ref a8]], [cN b a0 n0 f0], [cN b a1 n1 f1], [cN b a2 n0 f2], [cN b a3 n0 f3], [cN b a4 n4 f4], [cN b a6 n5 f6], [cN b a7 n5 f7], [cN b a8 257 f8]] (sz + 1) (sl + 2 * n5) H lo := hw
  refine r_put (Ws' := [[cN b a5 n5 f5], [cN b sz (2 * n5) x5], [cO h 2 [.ref a0, .ref a1, .int (nI u), .int (nI k), .int (nI v), .ref a2, .ref a3, .ref a4, .ref sz, .ref a6, .ref a7, .ref a8]], [cN b a0 n0 f0], [cN b a1 n1 f1], [cN b a2 n0 f2], [cN b a3 n0 f3], [cN b a4 n4 f4], [cN b a6 n5 f6], [cN b a7 n5 f7], [cN b a8 257 f8]]) X hw f_Circuit_27 (dat D_Circuit_grow 4 rfl) 2 0 rfl rfl rfl rfl rfl (Nat.le_of_ble_eq_true rfl) rfl (fun H lo hw => ?_)
  refine r_aldn X (dat D_Circuit_grow 5 rfl) rfl 0 rfl ?_
  refine r_aldn X (dat D_Circuit_grow 6 rfl) rfl 0 rfl ?_
  refine r_get X hw f_Circuit_30 (dat D_Circuit_grow 7 rfl) 2 0 rfl rfl rfl ?_
  refine r_callS (NW := 11) (As := [.ref a6]) (st := [.ref h]) X hw m_Circuit_53 (c_longer l b BC BS (sz + 1) (sl + 2 * n5) a6 n5 f6 (by omega) (by omega) (by omega)) (dat D_Circuit_grow 8 rfl) [8] [0, 1, 2, 3, 4, 5, 6, 7, 9, 10] rfl (by decide +kernel) rfl rfl rfl rfl (Nat.le_of_ble_eq_true rfl) ⟨by decide, by decide⟩ (fun r x6 sz_2 sl_2 H lo hp hw => ?_)
  obtain ⟨rfl, rfl, rfl, hx6⟩ := hp
  refine r_st (st' := [.ref (sz + 1), .ref h]) rfl ?_
  have hw : Wd b BC BS sl s A [[cN b a6 n5 f6], [cN b (sz + 1) (2 * n5) x6], [cN b a5 n5 f5], [cN b sz (2 * n5) x5], [cO h 2 [.ref a0, .ref a1, .int (nI u), .int (nI k), .int (nI v), .ref a2, .ref a3, .ref a4, .ref sz, .ref a6, .ref a7, .ref a8]], [cN b a0 n0 f0], [cN b a1 n1 f1], [cN b a2 n0 f2], [cN b a3 n0 f3], [cN b a4 n4 f4], [cN b a7 n5 f7], [cN b a8 257 f8]] (sz + 1 + 1) (sl + 2 * n5 + 2 * n5) H lo := hw
  refine r_put (Ws' := [[cN b a6 n5 f6], [cN b (sz + 1) (2 * n5) x6], [cN b a5 n5 f5], [cN b sz (2 * n5) x5], [cO h 2 [.ref a0, .ref a1, .int (nI u), .int (nI k), .int (nI v), .ref a2, .ref a3, .ref a4, .ref sz, .ref (sz + 1), .ref a7, .ref a8]], [cN b a0 n0 f0], [cN b a1 n1 f1], [cN b a2 n0 f2], [cN b a3 n0 f3], [cN b a4 n4 f4], [cN b a7 n5 f7], [cN b a8 257 f8]]) X hw f_Circuit_30 (dat D_Circuit_grow 9 rfl) 4 0 rfl rfl rfl rfl rfl (Nat.le_of_ble_eq_true rfl) rfl (fun H lo hw => ?_)
  refine r_aldn X (dat D_Circuit_grow 10 rfl) rfl 0 rfl ?_
  refine r_aldn X (dat D_Circuit_grow 11 rfl) rfl 0 rfl ?_
  refine r_get X hw f_Circuit_33 (dat D_Circuit_grow 12 rfl) 4 0 rfl rfl rfl ?_
  refine r_callS (NW := 12) (As := [.ref a7]) (st := [.ref h]) X hw m_Circuit_53 (c_longer l b BC BS (sz + 1 + 1) (sl + 2 * n5 + 2 * n5) a7 n5 f7 (by omega) (by omega) (by omega)) (dat D_Circuit_grow 13 rfl) [10] [0, 1, 2, 3, 4, 5, 6, 7, 8, 9, 11] rfl (by decide +kernel) rfl rfl rfl rfl (Nat.le_of_ble_eq_true rfl) ⟨by decide, by decide⟩ (fun r x7 sz_3 sl_3 H lo hp hw => ?_)
  obtain ⟨rfl, rfl, rfl, hx7⟩ := hp
  refine r_st (st' := [.ref (sz + 1 + 1), .ref h]) rfl ?_
  have hw : Wd b BC BS sl s A [[cN b a7 n5 f7], [cN b (sz + 1 + 1) (2 * n5) x7], [cN b a6 n5 f6], [cN b (sz + 1) (2 * n5) x6], [cN b a5 n5 f5], [cN b sz (2 * n5) x5], [cO h 2 [.ref a0, .ref a1, .int (nI u), .int (nI k), .int (nI v), .ref a2, .ref a3, .ref a4, .ref sz, .ref (sz + 1), .ref a7, .ref a8]], [cN b a0 n0 f0], [cN b a1 n1 f1], [cN b a2 n0 f2], [cN b a3 n0 f3], [cN b a4 n4 f4], [cN b a8 257 f8]] (sz + 1 + 1 + 1) (sl + 2 * n5 + 2 * n5 + 2 * n5) H lo := hw
  refine r_put (Ws' := [[cN b a7 n5 f7], [cN b (sz + 1 + 1) (2 * n5) x7], [cN b a6 n5 f6], [cN b (sz + 1) (2 * n5) x6], [cN b a5 n5 f5], [cN b sz (2 * n5) x5], [cO h 2 [.ref a0, .ref a1, .int (nI u), .int (nI k), .int (nI v), .ref a2, .ref a3, .ref a4, .ref sz, .ref (sz + 1), .ref (sz + 1 + 1), .ref a8]], [cN b a0 n0 f0], [cN b a1 n1 f1], [cN b a2 n0 f2], [cN b a3 n0 f3], [cN b a4 n4 f4], [cN b a8 257 f8]]) X hw f_Circuit_33 (dat D_Circuit_grow 14 rfl) 6 0 rfl rfl rfl rfl rfl (Nat.le_of_ble_eq_true rfl) rfl (fun H lo hw => ?_)
  refine r_vret RT (dat D_Circuit_grow 15 rfl) ((a0, n0, f0), (a1, n1, f1), (a2, n0, f2), (a3, n0, f3), (a4, n4, f4), (sz, 2 * n5, x5), (sz + 1, 2 * n5, x6), (sz + 1 + 1, 2 * n5, x7), (a8, 257, f8), u, k, v) ⟨rfl, ⟨rfl, rfl, rfl, rfl, rfl, p0, p1, p4, p5.dbl hf, g0, g1, g4, ?_⟩, ⟨?_, ?_⟩, rfl, ?_, rfl, rfl, rfl, rfl, rfl, rfl, rfl, rfl, rfl, rfl, fun _ => rfl⟩ ((hw.pick (NW := 13) (Ws' := [[cO h 2 [.ref a0, .ref a1, .int (nI u), .int (nI k), .int (nI v), .ref a2, .ref a3, .ref a4, .ref sz, .ref (sz + 1), .ref (sz + 1 + 1), .ref a8]], [cN b a0 n0 f0], [cN b a1 n1 f1], [cN b a2 n0 f2], [cN b a3 n0 f3], [cN b a4 n4 f4], [cN b sz (2 * n5) x5], [cN b (sz + 1) (2 * n5) x6], [cN b (sz + 1 + 1) (2 * n5) x7], [cN b a8 257 f8]]) [6, 7, 8, 9, 10, 11, 5, 3, 1, 12] [0, 2, 4] rfl (by decide +kernel) rfl).re rfl)
  all_goals dsimp only [cLen, cPhi, cBud, SameG, cU_mk, cK_mk, cV_mk, fL_mk, fS_mk, fC_mk, fN_mk, fP_mk, fF_mk, fG_mk, fH_mk, fD_mk, lL_mk, lS_mk, lP_mk, lF_mk]
  · omega
  · omega
  · omega
  · intro j hj
    rw [hx5, hx6, hx7]
    simp only [if_pos (show j < n5 by omega)]
    exact ⟨trivial, trivial, trivial⟩
