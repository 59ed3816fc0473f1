set_option maxRecDepth 100000
/-- the stronger ones of a row are ahead -/
def stF (r : List Wi) (i : Nat) : Bool := match r[i]? with
  | none => false
  | some w => w.2.2
theorem stF_at {r : List Wi} {i : Nat} {w : Wi} (h : r[i]? = some w) : stF r i = w.2.2 := by unfold stF; rw [h]
theorem cn_ltp {f : Nat → Bool} {p : Nat} : ∀ n, (∀ i, i < n → f i = decide (i < p)) → cn f n = min n p := by
  intro n
  induction n with
  | zero => intro _; exact (Nat.zero_min _).symm
  | succ n ih =>
    intro h
    show cn f n + _ = _
    rw [ih (fun i hi => h i (by omega)), h n (by omega)]
    by_cases e : n < p
    · rw [if_pos (by simp [e])]; omega
    · rw [if_neg (by simp [e])]; omega
theorem stF_cn {r : List Wi} (h : r.Pairwise (fun a b => b.2.2 = true → a.2.2 = true)) : cn (stF r) r.length = (r.takeWhile (fun x => x.2.2)).length := by
  have hle := (List.takeWhile_sublist (fun x : Wi => x.2.2) (l := r)).length_le
  rw [cn_ltp (p := (r.takeWhile (fun x => x.2.2)).length) r.length ?_, Nat.min_eq_right hle]
  intro i hi
  have hsp : r = r.takeWhile (fun x => x.2.2) ++ r.dropWhile (fun x => x.2.2) := (List.takeWhile_append_dropWhile).symm
  obtain ⟨w, hw⟩ : ∃ w, r[i]? = some w := ⟨_, List.getElem?_eq_getElem hi⟩
  rw [stF_at hw]
  by_cases e : i < (r.takeWhile (fun x => x.2.2)).length
  · rw [decide_eq_true e]
    rw [hsp, List.getElem?_append_left e] at hw
    exact mem_tw (p := fun x : Wi => x.2.2) (List.mem_of_getElem? hw)
  · rw [decide_eq_false e]
    rw [hsp, List.getElem?_append_right (by omega)] at hw
    cases hd : r.dropWhile (fun x => x.2.2) with
    | nil => rw [hd] at hw; cases hw
    | cons y ys =>
      have hy : y.2.2 = false := by
        have := List.head?_dropWhile_not (fun x : Wi => x.2.2) r
        rw [hd] at this
        simpa using this
      rw [hsp, hd] at h
      have hp := (List.pairwise_append.mp h).2.1
      rw [hd] at hw
      cases hc : w.2.2 with
      | false => rfl
      | true =>
        cases hk : i - (r.takeWhile (fun x => x.2.2)).length with
        | zero => rw [hk] at hw; cases hw; exact hy.symm.trans hc |>.symm
        | succ k =>
          rw [hk] at hw
          have := (List.pairwise_cons.mp hp).1 w (List.mem_of_getElem? (i := k) hw) hc
          rw [hy] at this
          cases this
theorem WR.ins {σ τ : AH} {ns : NL} {r : List Wi} {w : Wi} {q it : Nat} {W : Nat → Prop} (h : WR σ ns r) (hf : Fr W σ τ) (hit : σ it = some (wiE w)) : WR τ (ns.take (posW w r) ++ (q, it) :: ns.drop (posW w r)) (insW w r) := by
  have hp : posW w r ≤ ns.length := by rw [h.1]; exact posW_le
  refine ⟨by rw [ins_len hp, insW_len, h.1], fun i x v hx hv => ?_⟩
  rw [ins_get hp] at hx
  rw [insW_get] at hv
  by_cases e1 : i < posW w r
  · rw [if_pos e1] at hx hv
    exact hf.2.2 _ _ (h.2 i x v hx hv) rfl
  · rw [if_neg e1] at hx hv
    by_cases e2 : i = posW w r
    · rw [if_pos e2] at hx hv
      cases hx
      cases hv
      exact hf.2.2 _ _ hit rfl
    · rw [if_neg e2] at hx hv
      exact hf.2.2 _ _ (h.2 (i - 1) x v hx hv) rfl
theorem mem_ins {ns : NL} {i : Nat} {w x : Nat × Nat} (h : x ∈ ns.take i ++ w :: ns.drop i) : x = w ∨ x ∈ ns := by
  rcases List.mem_append.mp h with h | h
  · exact Or.inr (List.mem_of_mem_take h)
  · rcases List.mem_cons.mp h with h | h
    · exact Or.inl h
    · exact Or.inr (List.mem_of_mem_drop h)
set_option maxHeartbeats 4000000 in
set_option maxRecDepth 100000 in
theorem con_X1_waits {l : Launch} {G : YG} {σ : AH} {a : Nat} {ad : Nat → Nat} {N : Nat → NL} {mc : Nat → Int32} {S : AS} {q s : Nat} {w : Wi} (hL : LD σ a ad N mc S) (hI : IV S) (hs : s < 8) (hq : σ q = some (wiE w)) (hm : w.1 < 24) : Con l yX1_waits cX1_waits 7 none G 6 2 8 [.ref a, .int (nI s), .ref q] σ (PV fun τ => PL a ad N σ (waitW S s w) τ) := by
  refine con_of (by decide) (Nat.le_of_ble_eq_true rfl) ?_
  refine x_locs (L' := [(0, .ref a), (1, .int (nI s)), (2, .ref q)]) [0, 1, 2] rfl ?_
  have ho := hL.o
  have hL0 := hL
  have hq0 := hq
  have hl8 := hI.len hs
  have hNl0 := hL.len hs
  refine x_aload_n dX1_waits_0 0 rfl rfl ?_
  refine x_get dX1_waits_1 vC_1 in_X1 ho 1 (by decide) q279 rfl ?_
  refine x_iload_n dX1_waits_4 1 rfl rfl ?_
  refine x_callV dX1_waits_5 (con_J2_get hL.al (lYs_at hs)) (lw_V q407 q408 q409 q89 q410) (np := 1) (by decide +kernel) rfl hL.al.rc ⟨Nat.le_of_ble_eq_true rfl, Nat.le_of_ble_eq_true rfl⟩ (Nat.le_of_ble_eq_true rfl) rfl (Nat.zero_le _) (Nat.zero_le _) (rSA ?_) nA'
  refine x_ckcast dX1_waits_8 q183 (hL.ll hs).rc ?_
  refine x_astore_n (i := 3) (L' := [(3, .ref (ad (10 + s))), (0, .ref a), (1, .int (nI s)), (2, .ref q)]) dX1_waits_11 rfl (by decide) rfl ?_
  refine x_aload_n dX1_waits_12 0 rfl rfl ?_
  refine x_callV dX1_waits_13 (con_J4_size (hL.ll hs)) (lw_V q997 q531 q2258 q91 q532) (np := 0) (by decide +kernel) rfl (hL.ll hs).rc ⟨Nat.le_of_ble_eq_true rfl, Nat.le_of_ble_eq_true rfl⟩ (Nat.le_of_ble_eq_true rfl) rfl (Nat.zero_le _) (Nat.zero_le _) (rS ?_) nI'
  refine x_top (x' := nI (qu S s).length) (congrArg nI hNl0) ?_
  refine x_istore (i := 4) (L' := [(4, .int (nI (qu S s).length)), (3, .ref (ad (10 + s))), (0, .ref a), (1, .int (nI s)), (2, .ref q)]) dX1_waits_16 (by decide) rfl ?_
  refine x_aload_n dX1_waits_18 4 rfl rfl ?_
  refine x_getN dX1_waits_19 vC_4 in_X4 hq 2 (by decide) q1083 rfl ?_
  have tail : ∀ (p : Nat) (τ : AH) (k n : Nat), p = posW w (qu S s) → RO σ τ → 1 ≤ k → 3 ≤ n → X l yX1_waits cX1_waits 7 none [] G (yroom 6 2 8) (yEnd G (yroom 6 2 8) (PV fun τ => PL a ad N σ (waitW S s w) τ)) 77 [(0, .ref a), (1, .int (nI s)), (2, .ref q), (3, .ref (ad (10 + s))), (4, .int (nI p))] [] τ k n := by
    intro p τ k n hp hR hk0 hn0
    have hL := hL0.ro hR
    have hq := hR _ _ hq0
    have hNl := hL.len hs
    have hpl : p ≤ (N s).length := by rw [hp, hNl]; exact posW_le
    have hlen := (hL.ll hs).len
    refine x_aload_n dX1_waits_77 3 rfl rfl ?_
    refine x_iload dX1_waits_78 4 rfl ?_
    refine x_aload_n dX1_waits_80 2 rfl rfl ?_
    refine x_callV dX1_waits_81 (con_J4_add (hL.ll hs) (it := q) hpl (by omega)) (lw_V q1118 q1119 q1120 q91 q1121) (np := 2) (by decide +kernel) rfl (hL.ll hs).rc ⟨Nat.le_of_ble_eq_true rfl, Nat.le_of_ble_eq_true rfl⟩ (Nat.le_of_ble_eq_true rfl) rfl (by omega) (by omega) (rV fun σ2 h1 => ?_) nV'
    obtain ⟨qn, hqn, k1, k2⟩ := h1
    rw [hp] at k1
    obtain ⟨N4, mc5, hL, hF, hQ⟩ : PL a ad N σ (sRow S s (insW w (qu S s))) σ2 := PL.tr Fr.rf (fun _ hq => Or.inl hq) (PL.roThen hR (PL.list hL hs k1 k2 (fun x hx => (mem_ins hx).elim (fun e => Or.inr (by rw [e]; exact hqn)) (fun h => Or.inl ⟨x, h, rfl⟩)) (WR.ins (hL.wr hs) k2 hq)))
    have ho := hL.o
    have hq := hF.2.2 _ _ hq0 rfl
    refine x_aload_n dX1_waits_84 0 rfl rfl ?_
    refine x_get dX1_waits_85 vC_1 in_X1 ho 3 (by decide) q283 rfl ?_
    refine x_aload_n dX1_waits_88 2 rfl rfl ?_
    refine x_getN dX1_waits_89 vC_4 in_X4 hq 0 (by decide) q1078 rfl ?_
    refine x_dup2_11 dX1_waits_92 rfl rfl ?_
    obtain ⟨fa6, ha7, hv8⟩ := hL.arr (i := 1) (by decide)
    refine x_iald (N := 24) (j := w.1) (v := nI (wT S w.1)) dX1_waits_93 ha7 rfl (hm) (by decide) (hv8 _ (hm)) ?_
    refine x_iconst (v := nI 1) dX1_waits_94 (by decide) ?_
    refine x_iadd dX1_waits_95 ?_
    refine x_top (x' := nI (wT S w.1 + 1)) (nI_add _ _) ?_
    obtain ⟨fa9, ha10, hv11⟩ := hL.arr (i := 1) (by decide)
    refine x_iast (N := 24) (j := w.1) (w := nI (wT S w.1 + 1)) dX1_waits_96 ha10 rfl (hm) (by decide) (fun σ12 h13 h14 => ?_)
    obtain ⟨N15, mc16, hL, hF, hQ⟩ : PL a ad N σ (waitW S s w) σ12 := PL.tr hF hQ (PL.arr hL (i := 1) (by decide) h13 h14 (fun j hj => updF hv11 hj) rfl ⟨rfl, rfl⟩ rfl (fun i' hi' hn => match i', hi', hn with | 0, _, hn => (by first | rfl | exact absurd rfl hn) | 1, _, hn => (by first | rfl | exact absurd rfl hn) | 2, _, hn => (by first | rfl | exact absurd rfl hn) | 3, _, hn => (by first | rfl | exact absurd rfl hn) | 4, _, hn => (by first | rfl | exact absurd rfl hn)))
    have ho := hL.o
    exact x_vret dX1_waits_97 rfl (⟨rfl, ⟨_, _, hL, hF, hQ⟩⟩)
  refine x_if_eq (tgt := 77) dX1_waits_22 (by decide) (fun c1 => ?_) (fun c1 => ?_)
  · have c1 : w.2.2 = false := bI_0 c1
    refine x_locs (L' := [(0, .ref a), (1, .int (nI s)), (2, .ref q), (3, .ref (ad (10 + s))), (4, .int (nI (qu S s).length))]) [2, 3, 4, 1, 0] rfl ?_
    exact tail _ _ _ _ (by unfold posW; rw [c1]; rfl) RO.rf (by omega) (by omega)
  · have c1 : w.2.2 = true := bI_1 c1
    have hpos : posW w (qu S s) = cn (stF (qu S s)) (qu S s).length := by unfold posW; rw [c1, stF_cn (hI.2.2.2.2.2.2.2.1 s hs)]; rfl
    refine x_iconst (v := nI 0) dX1_waits_25 (by decide) ?_
    refine x_istore (i := 4) (L' := [(4, .int (nI 0)), (3, .ref (ad (10 + s))), (0, .ref a), (1, .int (nI s)), (2, .ref q)]) dX1_waits_26 (by decide) rfl ?_
    refine x_aload_n dX1_waits_28 1 rfl rfl ?_
    refine x_callU dX1_waits_29 (con_J3_iterator (hL.ll hs)) (lw_U q421 q422 q424 q425 q90 q426) rfl (np := 0) (by decide +kernel) rfl (hL.ll hs).rc ⟨Nat.le_of_ble_eq_true rfl, Nat.le_of_ble_eq_true rfl⟩ (Nat.le_of_ble_eq_true rfl) rfl (by omega) (by omega) (rA fun z σ18 hi17 => ?_) nA'
    obtain ⟨zn, zI, zR⟩ := hi17
    have hL := hL.ro (zR)
    have ho := hL.o
    have hq := (zR) _ _ hq
    refine x_astore (i := 5) (L' := [(5, .ref z), (4, .int (nI 0)), (3, .ref (ad (10 + s))), (0, .ref a), (1, .int (nI s)), (2, .ref q)]) dX1_waits_32 (by decide) rfl ?_
    have hR := zR
    refine x_locs (L' := [(0, .ref a), (1, .int (nI s)), (2, .ref q), (3, .ref (ad (10 + s))), (4, .int (nI 0)), (5, .ref z)]) [3, 4, 5, 2, 1, 0] rfl ?_
    suffices loop : ∀ (d j : Nat) (τ : AH) (la : Option Nat) (k n : Nat), j + d = (qu S s).length → RO σ τ → LI τ z (ad (10 + s)) (mc s) (N s) j la → 1 ≤ k → 3 ≤ n → X l yX1_waits cX1_waits 7 none [] G (yroom 6 2 8) (yEnd G (yroom 6 2 8) (PV fun τ => PL a ad N σ (waitW S s w) τ)) 34 [(0, .ref a), (1, .int (nI s)), (2, .ref q), (3, .ref (ad (10 + s))), (4, .int (nI (cn (stF (qu S s)) j))), (5, .ref z)] [] τ k n from loop _ 0 _ none _ _ (Nat.zero_add _) (hR) zI  (by omega) (by omega)
    intro d
    induction d with
    | zero =>
      intro j τ la k n hj hR hz hk0 hn0
      have hL := hL0.ro hR
      have ho := hL.o
      have hjl : j = (qu S s).length := by omega
      have hNl := (hL.wr hs).1
      have hq := hR _ _ hq0
      refine x_aload dX1_waits_34 5 rfl ?_
      refine x_callF dX1_waits_36 (con_J18_hasNext (hL.ll hs) hz (by omega)) (lw_F q509 q549 q551 q108 q553) q511 q510 q552 q550 q548 (np := 0) (by decide +kernel) rfl vC_13 hz ⟨Nat.le_of_ble_eq_true rfl, Nat.le_of_ble_eq_true rfl⟩ (Nat.le_of_ble_eq_true rfl) rfl (Nat.zero_le _) (Nat.zero_le _) (rS ?_) nI'
      refine x_top (x' := 0) (by rw [decide_eq_false (by omega)]; rfl) ?_
      refine x_if_eq (tgt := 77) dX1_waits_41 (by decide) (fun _ => ?_) (fun h_ => absurd (rfl) h_)
      refine x_locs (L' := [(0, .ref a), (1, .int (nI s)), (2, .ref q), (3, .ref (ad (10 + s))), (4, .int (nI (cn (stF (qu S s)) j)))]) [0, 1, 2, 3, 4] rfl ?_
      exact tail (cn (stF (qu S s)) j) _ _ _ (by rw [hpos, hjl]) hR (by omega) (by omega)
    | succ d ih =>
      intro j τ la k n hj hR hz hk0 hn0
      have hL := hL0.ro hR
      have ho := hL.o
      have hNl := (hL.wr hs).1
      obtain ⟨x, hx⟩ : ∃ x, (N s)[j]? = some x := ⟨_, List.getElem?_eq_getElem (by omega)⟩
      obtain ⟨wv, hwv⟩ : ∃ wv, (qu S s)[j]? = some wv := ⟨_, List.getElem?_eq_getElem (by omega)⟩
      have hwc := (hL.wr hs).2 j x wv hx hwv
      have hwi := hI.w hs (List.mem_of_getElem? hwv)
      have hwC := hI.th hwi.1
      have hC := hI.c
      have hq := hR _ _ hq0
      refine x_aload dX1_waits_34 5 rfl ?_
      refine x_callF dX1_waits_36 (con_J18_hasNext (hL.ll hs) hz (by omega)) (lw_F q509 q549 q551 q108 q553) q511 q510 q552 q550 q548 (np := 0) (by decide +kernel) rfl vC_13 hz ⟨Nat.le_of_ble_eq_true rfl, Nat.le_of_ble_eq_true rfl⟩ (Nat.le_of_ble_eq_true rfl) rfl (Nat.zero_le _) (Nat.zero_le _) (rS ?_) nI'
      refine x_top (x' := 1) (by rw [decide_eq_true (by omega)]; rfl) ?_
      refine x_if_eq (tgt := 77) dX1_waits_41 (by decide) (fun h_ => absurd h_ (by decide)) (fun _ => ?_)
      refine x_aload dX1_waits_44 5 rfl ?_
      refine x_callF dX1_waits_46 (con_J18_next (hL.ll hs) hz hx) (lw_F q555 q905 q907 q108 q909) q557 q556 q908 q906 q548 (np := 0) (by decide +kernel) rfl vC_13 hz ⟨Nat.le_of_ble_eq_true rfl, Nat.le_of_ble_eq_true rfl⟩ (Nat.le_of_ble_eq_true rfl) rfl (Nat.zero_le _) (Nat.zero_le _) (rA fun u σ22 h21 => ?_) nA'
      obtain ⟨rfl, hz, zU⟩ := h21
      have hR := hR.nx zn zU
      have hL := hL0.ro hR
      have ho := hL.o
      have hwc := (hL.wr hs).2 j x wv hx hwv
      have hq := hR _ _ hq0
      refine x_ckcast dX1_waits_51 q915 (rcv_of vC_4 hwc) ?_
      refine x_astore (i := 6) (L' := [(6, .ref x.2), (0, .ref a), (1, .int (nI s)), (2, .ref q), (3, .ref (ad (10 + s))), (4, .int (nI (cn (stF (qu S s)) j))), (5, .ref z)]) dX1_waits_54 (by decide) rfl ?_
      refine x_iload dX1_waits_56 5 rfl ?_
      refine x_aload dX1_waits_58 0 rfl ?_
      refine x_getN dX1_waits_60 vC_4 in_X4 hwc 2 (by decide) q1083 rfl ?_
      refine x_if_eq (tgt := 70) dX1_waits_63 (by decide) (fun c2 => ?_) (fun c2 => ?_)
      · have hf : stF (qu S s) j = false := by rw [stF_at hwv]; exact bI_0 c2
        refine x_iconst (v := nI 0) dX1_waits_70 (by decide) ?_
        refine x_iadd dX1_waits_71 ?_
        refine x_top (x' := nI (cn (stF (qu S s)) j + 0)) (nI_add _ _) ?_
        refine x_istore (i := 4) (L' := [(4, .int (nI (cn (stF (qu S s)) j + 0))), (6, .ref x.2), (0, .ref a), (1, .int (nI s)), (2, .ref q), (3, .ref (ad (10 + s))), (5, .ref z)]) dX1_waits_72 (by decide) rfl ?_
        refine x_goto (tgt := 34) dX1_waits_74 (by decide) ?_
        refine x_locs (L' := [(0, .ref a), (1, .int (nI s)), (2, .ref q), (3, .ref (ad (10 + s))), (4, .int (nI (cn (stF (qu S s)) j + 0))), (5, .ref z)]) [2, 3, 4, 5, 0, 6] rfl ?_
        have hj1 := cn_f hf
        rw [← hj1]
        exact ih (j + 1) _ _ _ _ (by omega) hR hz  (by omega) (by omega)
      · have hf : stF (qu S s) j = true := by rw [stF_at hwv]; exact bI_1 c2
        refine x_iconst (v := nI 1) dX1_waits_66 (by decide) ?_
        refine x_goto (tgt := 71) dX1_waits_67 (by decide) ?_
        refine x_iadd dX1_waits_71 ?_
        refine x_top (x' := nI (cn (stF (qu S s)) j + 1)) (nI_add _ _) ?_
        refine x_istore (i := 4) (L' := [(4, .int (nI (cn (stF (qu S s)) j + 1))), (6, .ref x.2), (0, .ref a), (1, .int (nI s)), (2, .ref q), (3, .ref (ad (10 + s))), (5, .ref z)]) dX1_waits_72 (by decide) rfl ?_
        refine x_goto (tgt := 34) dX1_waits_74 (by decide) ?_
        refine x_locs (L' := [(0, .ref a), (1, .int (nI s)), (2, .ref q), (3, .ref (ad (10 + s))), (4, .int (nI (cn (stF (qu S s)) j + 1))), (5, .ref z)]) [2, 3, 4, 5, 0, 6] rfl ?_
        have hj1 := cn_t hf
        rw [← hj1]
        exact ih (j + 1) _ _ _ _ (by omega) hR hz  (by omega) (by omega)
theorem BS.set {z : Int32} {f : Nat → Bool} {o : Nat} (h : BS z f) (ho : o < 24) : z ||| (nI 1 <<< (nI o &&& 31)) = encB (fset f o true) := ((h.or (BS.one ho)).to (fun i _ => by
  unfold fset
  by_cases e : i = o
  · subst e; simp
  · simp [e])).enc
theorem BS.unset {z : Int32} {f : Nat → Bool} {o : Nat} (h : BS z f) (ho : o < 24) : z &&& ((nI 1 <<< (nI o &&& 31)) ^^^ (-1)) = encB (fset f o false) := ((h.andnot (BS.one ho)).to (fun i _ => by
  unfold fset
  by_cases e : i = o
  · subst e; simp
  · simp [e])).enc
set_option maxHeartbeats 4000000 in
set_option maxRecDepth 100000 in
theorem con_X1_comes_r {l : Launch} {G : YG} {σ : AH} {a : Nat} {ad : Nat → Nat} {N : Nat → NL} {mc : Nat → Int32} {S : AS} {r : Nat × Nat} (hL : LD σ a ad N mc S) (hI : IV S) (hr : opMaid S = .inl r) : Con l yX1_comes cX1_comes 1 (some FieldType.int) G 5 1 8 [.ref a] σ (PT σ (nI r.1) (nI r.2)) := by
  refine con_of (by decide) (Nat.le_of_ble_eq_true rfl) ?_
  refine x_locs (L' := [(0, .ref a)]) [0] rfl ?_
  have ho := hL.o
  have hC := hI.c
  have hcn := hI.2.2.2.2.2.2.2.2.1
  have hcn8 := hI.2.2.2.2.2.2.2.2.2
  have hcn9 := cn_le (f := tH S) (n := 24)
  refine x_aload_n dX1_comes_0 0 rfl rfl ?_
  refine x_callV dX1_comes_1 (con_X1_many hL) (lw_V q949 q950 q951 q86 q952) (np := 0) (by decide +kernel) rfl (rcv_of vC_1 ho) ⟨Nat.le_of_ble_eq_true rfl, Nat.le_of_ble_eq_true rfl⟩ (Nat.le_of_ble_eq_true rfl) rfl (Nat.zero_le _) (Nat.zero_le _) (rS ?_) nI'
  refine x_bipush (v := nI 8) dX1_comes_4 (by decide) ?_
  refine x_icmp_eq (tgt := 18) dX1_comes_6 (by decide) (fun c1 => ?_) (fun c1 => ?_)
  · have c1 : cn (tH S) 24 = 8 := nEq (by omega) (by decide) c1
    refine x_iconst (v := nI 1) dX1_comes_18 (by decide) ?_
    refine x_goto (tgt := 23) dX1_comes_19 (by decide) ?_
    refine x_iconst (v := nI 1) dX1_comes_23 (by decide) ?_
    refine x_aload_n dX1_comes_24 0 rfl rfl ?_
    refine x_get dX1_comes_25 vC_1 in_X1 ho 8 (by decide) q290 rfl ?_
    refine x_bipush (v := nI 24) dX1_comes_28 (by decide) ?_
    refine x_icmp_ne (tgt := 38) dX1_comes_30 (by decide) (fun c2 => ?_) (fun c2 => ?_)
    · have c2 := nNe (by omega) (by decide) c2
      refine x_bipush (v := nI 8) dX1_comes_38 (by decide) ?_
      have hrr : r = (1, 8) := by unfold opMaid at hr; rw [if_neg c2, if_pos (by omega)] at hr; exact (Sum.inl.inj hr).symm
      subst hrr
      refine x_callSN dX1_comes_40 (con_X0_refuse1) (lw_meth q961) q85 q959 q960 (np := 3) (by decide +kernel) rfl ⟨Nat.le_of_ble_eq_true rfl, Nat.le_of_ble_eq_true rfl⟩ (Nat.le_of_ble_eq_true rfl) rfl (by omega) (by omega) rTn (fun E_ q_ σ2 hT_ => ?_)
      exact xt_out (fun z hz => by cases hz) hT_
    · have c2 := nEq (by omega) (by decide) c2
      refine x_bipush (v := nI 24) dX1_comes_33 (by decide) ?_
      refine x_goto (tgt := 40) dX1_comes_35 (by decide) ?_
      have hrr : r = (1, 24) := by unfold opMaid at hr; rw [if_pos c2] at hr; exact (Sum.inl.inj hr).symm
      subst hrr
      refine x_callSN dX1_comes_40 (con_X0_refuse1) (lw_meth q961) q85 q959 q960 (np := 3) (by decide +kernel) rfl ⟨Nat.le_of_ble_eq_true rfl, Nat.le_of_ble_eq_true rfl⟩ (Nat.le_of_ble_eq_true rfl) rfl (by omega) (by omega) rTn (fun E_ q_ σ3 hT_ => ?_)
      exact xt_out (fun z hz => by cases hz) hT_
  · have c1 : cn (tH S) 24 ≠ 8 := nNe (by omega) (by decide) c1
    refine x_aload_n dX1_comes_9 0 rfl rfl ?_
    refine x_get dX1_comes_10 vC_1 in_X1 ho 8 (by decide) q290 rfl ?_
    refine x_bipush (v := nI 24) dX1_comes_13 (by decide) ?_
    refine x_icmp_ne (tgt := 22) dX1_comes_15 (by decide) (fun c2 => ?_) (fun c2 => ?_)
    · have c2 := nNe (by omega) (by decide) c2
      unfold opMaid at hr
      rw [if_neg c2, if_neg (by omega)] at hr
      cases hr
    · have c2 := nEq (by omega) (by decide) c2
      refine x_iconst (v := nI 1) dX1_comes_18 (by decide) ?_
      refine x_goto (tgt := 23) dX1_comes_19 (by decide) ?_
      refine x_iconst (v := nI 1) dX1_comes_23 (by decide) ?_
      refine x_aload_n dX1_comes_24 0 rfl rfl ?_
      refine x_get dX1_comes_25 vC_1 in_X1 ho 8 (by decide) q290 rfl ?_
      refine x_bipush (v := nI 24) dX1_comes_28 (by decide) ?_
      refine x_icmp_ne (tgt := 38) dX1_comes_30 (by decide) (fun h_ => absurd (by rw [c2]) h_) (fun _ => ?_)
      refine x_bipush (v := nI 24) dX1_comes_33 (by decide) ?_
      refine x_goto (tgt := 40) dX1_comes_35 (by decide) ?_
      have hrr : r = (1, 24) := by unfold opMaid at hr; rw [if_pos c2] at hr; exact (Sum.inl.inj hr).symm
      subst hrr
      refine x_callSN dX1_comes_40 (con_X0_refuse1) (lw_meth q961) q85 q959 q960 (np := 3) (by decide +kernel) rfl ⟨Nat.le_of_ble_eq_true rfl, Nat.le_of_ble_eq_true rfl⟩ (Nat.le_of_ble_eq_true rfl) rfl (by omega) (by omega) rTn (fun E_ q_ σ4 hT_ => ?_)
      exact xt_out (fun z hz => by cases hz) hT_
set_option maxHeartbeats 4000000 in
set_option maxRecDepth 100000 in
theorem con_X1_comes {l : Launch} {G : YG} {σ : AH} {a : Nat} {ad : Nat → Nat} {N : Nat → NL} {mc : Nat → Int32} {S : AS} {T : AS} {t : Nat} (hL : LD σ a ad N mc S) (hI : IV S) (hr : opMaid S = .inr (T, t)) : Con l yX1_comes cX1_comes 1 (some FieldType.int) G 5 1 8 [.ref a] σ (PI fun z τ => z = nI t ∧ PL a ad N σ T τ) := by
  refine con_of (by decide) (Nat.le_of_ble_eq_true rfl) ?_
  refine x_locs (L' := [(0, .ref a)]) [0] rfl ?_
  have ho := hL.o
  have hC := hI.c
  have hcn := hI.2.2.2.2.2.2.2.2.1
  have hcn8 := hI.2.2.2.2.2.2.2.2.2
  have hcn9 := cn_le (f := tH S) (n := 24)
  have hc24 : nC S ≠ 24 := fun e => by unfold opMaid at hr; rw [if_pos e] at hr; cases hr
  have hc8 : cn (tH S) 24 ≠ 8 := fun e => by unfold opMaid at hr; rw [if_neg hc24, if_pos (by omega)] at hr; cases hr
  have hTt : T = sNC (sTH S (fset (tH S) (nC S) true)) (nC S + 1) ∧ t = nC S := by
    unfold opMaid at hr; rw [if_neg hc24, if_neg (by omega)] at hr; cases hr; exact ⟨rfl, rfl⟩
  obtain ⟨rfl, rfl⟩ := hTt
  refine x_aload_n dX1_comes_0 0 rfl rfl ?_
  refine x_callV dX1_comes_1 (con_X1_many hL) (lw_V q949 q950 q951 q86 q952) (np := 0) (by decide +kernel) rfl (rcv_of vC_1 ho) ⟨Nat.le_of_ble_eq_true rfl, Nat.le_of_ble_eq_true rfl⟩ (Nat.le_of_ble_eq_true rfl) rfl (Nat.zero_le _) (Nat.zero_le _) (rS ?_) nI'
  refine x_bipush (v := nI 8) dX1_comes_4 (by decide) ?_
  refine x_icmp_eq (tgt := 18) dX1_comes_6 (by decide) (fun h_ => absurd h_ (fun h => hc8 (nEq (by omega) (by decide) h))) (fun _ => ?_)
  refine x_aload_n dX1_comes_9 0 rfl rfl ?_
  refine x_get dX1_comes_10 vC_1 in_X1 ho 8 (by decide) q290 rfl ?_
  refine x_bipush (v := nI 24) dX1_comes_13 (by decide) ?_
  refine x_icmp_ne (tgt := 22) dX1_comes_15 (by decide) (fun _ => ?_) (fun h_ => absurd h_ (fun h => hc24 (nEq (by omega) (by decide) h)))
  refine x_iconst (v := nI 0) dX1_comes_22 (by decide) ?_
  refine x_iconst (v := nI 1) dX1_comes_23 (by decide) ?_
  refine x_aload_n dX1_comes_24 0 rfl rfl ?_
  refine x_get dX1_comes_25 vC_1 in_X1 ho 8 (by decide) q290 rfl ?_
  refine x_bipush (v := nI 24) dX1_comes_28 (by decide) ?_
  refine x_icmp_ne (tgt := 38) dX1_comes_30 (by decide) (fun _ => ?_) (fun h_ => absurd h_ (fun h => hc24 (nEq (by omega) (by decide) h)))
  refine x_bipush (v := nI 8) dX1_comes_38 (by decide) ?_
  refine x_callSN dX1_comes_40 (con_X0_refuse0) (lw_meth q961) q85 q959 q960 (np := 3) (by decide +kernel) rfl ⟨Nat.le_of_ble_eq_true rfl, Nat.le_of_ble_eq_true rfl⟩ (Nat.le_of_ble_eq_true rfl) rfl (Nat.zero_le _) (Nat.zero_le _) (rSV ?_) nV'
  refine x_aload_n dX1_comes_43 0 rfl rfl ?_
  refine x_dup dX1_comes_44 rfl ?_
  refine x_get dX1_comes_45 vC_1 in_X1 ho 7 (by decide) q289 rfl ?_
  refine x_iconst (v := nI 1) dX1_comes_48 (by decide) ?_
  refine x_aload_n dX1_comes_49 0 rfl rfl ?_
  refine x_get dX1_comes_50 vC_1 in_X1 ho 8 (by decide) q290 rfl ?_
  refine x_ishl dX1_comes_53 ?_
  refine x_ior dX1_comes_54 ?_
  refine x_top (x' := encB (fset (tH S) (nC S) true)) (BS.set (encB_BS _) (by omega)) ?_
  refine x_put (fs' := [.ref (ad 0), .ref (ad 1), .ref (ad 2), .ref (ad 3), .ref (ad 4), .ref (ad 5), .ref (ad 6), .int (encB (fset (tH S) (nC S) true)), .int (nI (nC S)), .int (nI (nE S))]) dX1_comes_55 vC_1 in_X1 tyX1_ok nmX1 ho 7 (by decide) q289 rfl rfl (rfl) (rfl) (Nat.le_of_ble_eq_true rfl) rfl (fun σ2 hc4 hu3 => ?_)
  refine x_aload_n dX1_comes_58 0 rfl rfl ?_
  refine x_dup dX1_comes_59 rfl ?_
  refine x_get dX1_comes_60 vC_1 in_X1 hc4 8 (by decide) q290 rfl ?_
  refine x_iconst (v := nI 1) dX1_comes_63 (by decide) ?_
  refine x_iadd dX1_comes_64 ?_
  refine x_top (x' := nI (nC S + 1)) (nI_add _ _) ?_
  refine x_put (fs' := [.ref (ad 0), .ref (ad 1), .ref (ad 2), .ref (ad 3), .ref (ad 4), .ref (ad 5), .ref (ad 6), .int (encB (fset (tH S) (nC S) true)), .int (nI (nC S + 1)), .int (nI (nE S))]) dX1_comes_65 vC_1 in_X1 tyX1_ok nmX1 hc4 8 (by decide) q290 rfl rfl (rfl) (rfl) (Nat.le_of_ble_eq_true rfl) rfl (fun σ5 hc7 hu6 => ?_)
  refine x_aload_n dX1_comes_68 0 rfl rfl ?_
  refine x_get dX1_comes_69 vC_1 in_X1 hc7 8 (by decide) q290 rfl ?_
  refine x_iconst (v := nI 1) dX1_comes_72 (by decide) ?_
  refine x_isub dX1_comes_73 ?_
  refine x_top (x' := nI (nC S)) (by rw [nI_sub (by omega)]; rfl) ?_
  exact x_iret dX1_comes_74 rfl (⟨_, rfl, rfl, PL.obj hL hc7 (fun q hq => (hu6 q hq).trans (hu3 q hq)) rfl rfl (fun i hi => rfl)⟩)
set_option maxHeartbeats 4000000 in
set_option maxRecDepth 100000 in
theorem con_X1_wish_r {l : Launch} {G : YG} {σ : AH} {a : Nat} {ad : Nat → Nat} {N : Nat → NL} {mc : Nat → Int32} {S : AS} {m s k : Nat} {b : Bool} {r : Nat × Nat} (hL : LD σ a ad N mc S) (hI : IV S) (hm : m < 24) (hs : s < 8) (hk : k = if b then 2 else 1) (hr : bar S m s k = some r) : Con l yX1_wish cX1_wish 6 (some (FieldType.object "LarderLocks$Wish")) G 7 9 48 [.ref a, .int (nI m), .int (nI s), .int (bI b)] σ (PT σ (nI r.1) (nI r.2)) := by
  refine con_of (by decide) (Nat.le_of_ble_eq_true rfl) ?_
  refine x_locs (L' := [(0, .ref a), (1, .int (nI m)), (2, .int (nI s)), (3, .int (bI b))]) [0, 1, 2, 3] rfl ?_
  have ho := hL.o
  have h2 := hI.2.2.1 m s
  have hL0 := hL
  refine x_aload_n dX1_wish_0 0 rfl rfl ?_
  refine x_iload_n dX1_wish_1 1 rfl rfl ?_
  refine x_callV dX1_wish_2 (con_X1_waitsFor hL hI hm) (lw_V q1068 q1069 q1070 q86 q1071) (np := 1) (by decide +kernel) rfl (rcv_of vC_1 ho) ⟨Nat.le_of_ble_eq_true rfl, Nat.le_of_ble_eq_true rfl⟩ (Nat.le_of_ble_eq_true rfl) rfl (by omega) (by omega) (rP fun σ1 hR => ?_) nI'
  have hL := hL.ro (hR)
  have ho := hL.o
  cases hat : aAt S m with
  | some z =>
    have hz8 := (aAt_some hat).1
    have hrr : r = (2, z) := by rw [bar_at hat] at hr; exact (Option.some.inj hr).symm
    subst hrr
    refine x_top (x' := nI z) (atV_some hat) ?_
    refine x_istore (i := 4) (L' := [(4, .int (nI z)), (0, .ref a), (1, .int (nI m)), (2, .int (nI s)), (3, .int (bI b))]) dX1_wish_5 (by decide) rfl ?_
    refine x_iload dX1_wish_7 0 rfl ?_
    refine x_bipush (v := (-15)) dX1_wish_9 (by decide) ?_
    refine x_icmp_eq (tgt := 18) dX1_wish_11 (by decide) (fun h_ => absurd h_ (fun h => absurd h ((by decide +kernel : ∀ s, s < 8 → ¬ nI s = (-15)) z hz8))) (fun _ => ?_)
    refine x_iconst (v := nI 1) dX1_wish_14 (by decide) ?_
    refine x_goto (tgt := 19) dX1_wish_15 (by decide) ?_
    refine x_iconst (v := nI 2) dX1_wish_19 (by decide) ?_
    refine x_iload dX1_wish_20 0 rfl ?_
    refine x_callSN dX1_wish_22 (con_X0_refuse1) (lw_meth q961) q85 q959 q960 (np := 3) (by decide +kernel) rfl ⟨Nat.le_of_ble_eq_true rfl, Nat.le_of_ble_eq_true rfl⟩ (Nat.le_of_ble_eq_true rfl) rfl (by omega) (by omega) rTn (fun E_ q_ σ2 hT_ => ?_)
    exact xt_out (fun z hz => by cases hz) (PT.ro hR hT_)
  | none =>
    have hso : (hw S m s = 2 ∨ hw S m s = k) ∧ r = (3, hw S m s) := by
      by_cases e : hw S m s = 2 ∨ hw S m s = k
      · rw [bar_so hat e] at hr; exact ⟨e, (Option.some.inj hr).symm⟩
      · rw [bar_no hat (fun z => e (Or.inl z)) (fun z => e (Or.inr z))] at hr; cases hr
    obtain ⟨hso, rfl⟩ := hso
    refine x_top (x' := (-15)) (atV_none hat) ?_
    refine x_istore (i := 4) (L' := [(4, .int (-15)), (0, .ref a), (1, .int (nI m)), (2, .int (nI s)), (3, .int (bI b))]) dX1_wish_5 (by decide) rfl ?_
    refine x_iload dX1_wish_7 0 rfl ?_
    refine x_bipush (v := (-15)) dX1_wish_9 (by decide) ?_
    refine x_icmp_eq (tgt := 18) dX1_wish_11 (by decide) (fun _ => ?_) (fun h_ => absurd (rfl) h_)
    refine x_iconst (v := nI 0) dX1_wish_18 (by decide) ?_
    refine x_iconst (v := nI 2) dX1_wish_19 (by decide) ?_
    refine x_iload dX1_wish_20 0 rfl ?_
    refine x_callSN dX1_wish_22 (con_X0_refuse0) (lw_meth q961) q85 q959 q960 (np := 3) (by decide +kernel) rfl ⟨Nat.le_of_ble_eq_true rfl, Nat.le_of_ble_eq_true rfl⟩ (Nat.le_of_ble_eq_true rfl) rfl (Nat.zero_le _) (Nat.zero_le _) (rSV ?_) nV'
    refine x_aload_n dX1_wish_25 1 rfl rfl ?_
    refine x_get dX1_wish_26 vC_1 in_X1 ho 0 (by decide) q277 rfl ?_
    refine x_iload_n dX1_wish_29 2 rfl rfl ?_
    obtain ⟨fh3, hh4, hv5⟩ := hL.2.1
    refine x_aald7 (N := 24) (j := m) dX1_wish_30 hh4 rfl (hm) (by decide) (hv5 _ (hm)) ?_
    refine x_iload_n dX1_wish_31 3 rfl rfl ?_
    obtain ⟨fr6, hr7, hw8⟩ := hL.row (m := m) (hm)
    refine x_sald (N := 8) (j := s) (v := nI (hw S m s)) dX1_wish_32 hr7 rfl (hs) (by decide) (hw8 _ (hs)) ?_
    refine x_istore (i := 5) (L' := [(5, .int (nI (hw S m s))), (4, .int (-15)), (0, .ref a), (1, .int (nI m)), (2, .int (nI s)), (3, .int (bI b))]) dX1_wish_33 (by decide) rfl ?_
    refine x_iload dX1_wish_35 0 rfl ?_
    refine x_iconst (v := nI 2) dX1_wish_37 (by decide) ?_
    refine x_icmp_eq (tgt := 51) dX1_wish_38 (by decide) (fun c1 => ?_) (fun c1 => ?_)
    · refine x_iconst (v := nI 1) dX1_wish_51 (by decide) ?_
      refine x_goto (tgt := 56) dX1_wish_52 (by decide) ?_
      refine x_iconst (v := nI 3) dX1_wish_56 (by decide) ?_
      refine x_iload dX1_wish_57 0 rfl ?_
      refine x_callSN dX1_wish_59 (con_X0_refuse1) (lw_meth q961) q85 q959 q960 (np := 3) (by decide +kernel) rfl ⟨Nat.le_of_ble_eq_true rfl, Nat.le_of_ble_eq_true rfl⟩ (Nat.le_of_ble_eq_true rfl) rfl (by omega) (by omega) rTn (fun E_ q_ σ9 hT_ => ?_)
      exact xt_out (fun z hz => by cases hz) (PT.ro hR hT_)
    · have c1 := nNe (by omega) (by decide) c1
      have hk1 : hw S m s = 1 ∧ b = false := by
        rcases hso with h | h
        · exact absurd h c1
        · cases b with
          | true => rw [hk] at h; exact absurd h c1
          | false => exact ⟨h.trans hk, rfl⟩
      refine x_iload dX1_wish_41 0 rfl ?_
      refine x_iconst (v := nI 1) dX1_wish_43 (by decide) ?_
      refine x_icmp_ne (tgt := 55) dX1_wish_44 (by decide) (fun h_ => absurd (by rw [hk1.1]) h_) (fun _ => ?_)
      refine x_iload_n dX1_wish_47 5 rfl rfl ?_
      refine x_if_ne (tgt := 55) dX1_wish_48 (by decide) (fun h_ => absurd (by rw [hk1.2]; rfl) h_) (fun _ => ?_)
      refine x_iconst (v := nI 1) dX1_wish_51 (by decide) ?_
      refine x_goto (tgt := 56) dX1_wish_52 (by decide) ?_
      refine x_iconst (v := nI 3) dX1_wish_56 (by decide) ?_
      refine x_iload dX1_wish_57 0 rfl ?_
      refine x_callSN dX1_wish_59 (con_X0_refuse1) (lw_meth q961) q85 q959 q960 (np := 3) (by decide +kernel) rfl ⟨Nat.le_of_ble_eq_true rfl, Nat.le_of_ble_eq_true rfl⟩ (Nat.le_of_ble_eq_true rfl) rfl (by omega) (by omega) rTn (fun E_ q_ σ10 hT_ => ?_)
      exact xt_out (fun z hz => by cases hz) (PT.ro hR hT_)
set_option maxHeartbeats 4000000 in
set_option maxRecDepth 100000 in
theorem con_X1_wish {l : Launch} {G : YG} {σ : AH} {a : Nat} {ad : Nat → Nat} {N : Nat → NL} {mc : Nat → Int32} {S : AS} {m s k : Nat} {b : Bool} (hL : LD σ a ad N mc S) (hI : IV S) (hm : m < 24) (hs : s < 8) (hk : k = if b then 2 else 1) (hr : bar S m s k = none) : Con l yX1_wish cX1_wish 6 (some (FieldType.object "LarderLocks$Wish")) G 7 9 48 [.ref a, .int (nI m), .int (nI s), .int (bI b)] σ (PA fun q τ => σ q = none ∧ τ q = some (wiE (m, k, hw S m s == 1)) ∧ RO σ τ) := by
  refine con_of (by decide) (Nat.le_of_ble_eq_true rfl) ?_
  refine x_locs (L' := [(0, .ref a), (1, .int (nI m)), (2, .int (nI s)), (3, .int (bI b))]) [0, 1, 2, 3] rfl ?_
  have ho := hL.o
  have h2 := hI.2.2.1 m s
  have hL0 := hL
  obtain ⟨hat, hn2, hnk⟩ := bar_none hr
  refine x_aload_n dX1_wish_0 0 rfl rfl ?_
  refine x_iload_n dX1_wish_1 1 rfl rfl ?_
  refine x_callV dX1_wish_2 (con_X1_waitsFor hL hI hm) (lw_V q1068 q1069 q1070 q86 q1071) (np := 1) (by decide +kernel) rfl (rcv_of vC_1 ho) ⟨Nat.le_of_ble_eq_true rfl, Nat.le_of_ble_eq_true rfl⟩ (Nat.le_of_ble_eq_true rfl) rfl (by omega) (by omega) (rP fun σ1 hR => ?_) nI'
  have hL := hL.ro (hR)
  have ho := hL.o
  refine x_top (x' := (-15)) (atV_none hat) ?_
  refine x_istore (i := 4) (L' := [(4, .int (-15)), (0, .ref a), (1, .int (nI m)), (2, .int (nI s)), (3, .int (bI b))]) dX1_wish_5 (by decide) rfl ?_
  refine x_iload dX1_wish_7 0 rfl ?_
  refine x_bipush (v := (-15)) dX1_wish_9 (by decide) ?_
  refine x_icmp_eq (tgt := 18) dX1_wish_11 (by decide) (fun _ => ?_) (fun h_ => absurd (rfl) h_)
  refine x_iconst (v := nI 0) dX1_wish_18 (by decide) ?_
  refine x_iconst (v := nI 2) dX1_wish_19 (by decide) ?_
  refine x_iload dX1_wish_20 0 rfl ?_
  refine x_callSN dX1_wish_22 (con_X0_refuse0) (lw_meth q961) q85 q959 q960 (np := 3) (by decide +kernel) rfl ⟨Nat.le_of_ble_eq_true rfl, Nat.le_of_ble_eq_true rfl⟩ (Nat.le_of_ble_eq_true rfl) rfl (Nat.zero_le _) (Nat.zero_le _) (rSV ?_) nV'
  refine x_aload_n dX1_wish_25 1 rfl rfl ?_
  refine x_get dX1_wish_26 vC_1 in_X1 ho 0 (by decide) q277 rfl ?_
  refine x_iload_n dX1_wish_29 2 rfl rfl ?_
  obtain ⟨fh2, hh3, hv4⟩ := hL.2.1
  refine x_aald7 (N := 24) (j := m) dX1_wish_30 hh3 rfl (hm) (by decide) (hv4 _ (hm)) ?_
  refine x_iload_n dX1_wish_31 3 rfl rfl ?_
  obtain ⟨fr5, hr6, hw7⟩ := hL.row (m := m) (hm)
  refine x_sald (N := 8) (j := s) (v := nI (hw S m s)) dX1_wish_32 hr6 rfl (hs) (by decide) (hw7 _ (hs)) ?_
  refine x_istore (i := 5) (L' := [(5, .int (nI (hw S m s))), (4, .int (-15)), (0, .ref a), (1, .int (nI m)), (2, .int (nI s)), (3, .int (bI b))]) dX1_wish_33 (by decide) rfl ?_
  refine x_iload dX1_wish_35 0 rfl ?_
  refine x_iconst (v := nI 2) dX1_wish_37 (by decide) ?_
  refine x_icmp_eq (tgt := 51) dX1_wish_38 (by decide) (fun h_ => absurd h_ (fun h => hn2 (nEq (by omega) (by decide) h))) (fun _ => ?_)
  refine x_iload dX1_wish_41 0 rfl ?_
  refine x_iconst (v := nI 1) dX1_wish_43 (by decide) ?_
  refine x_icmp_ne (tgt := 55) dX1_wish_44 (by decide) (fun c1 => ?_) (fun c1 => ?_)
  · have c1 := nNe (by omega) (by decide) c1
    refine x_iconst (v := nI 0) dX1_wish_55 (by decide) ?_
    refine x_iconst (v := nI 3) dX1_wish_56 (by decide) ?_
    refine x_iload dX1_wish_57 0 rfl ?_
    refine x_callSN dX1_wish_59 (con_X0_refuse0) (lw_meth q961) q85 q959 q960 (np := 3) (by decide +kernel) rfl ⟨Nat.le_of_ble_eq_true rfl, Nat.le_of_ble_eq_true rfl⟩ (Nat.le_of_ble_eq_true rfl) rfl (Nat.zero_le _) (Nat.zero_le _) (rSV ?_) nV'
    refine x_new (fs := [.int 0, .int 0, .int 0]) dX1_wish_62 vC_4 in_X4 tyX4_ok q915 q1072 q119 rfl (by omega) (by omega) (fun q σ8 hn9 hb10 hc11 hu12 => ?_)
    have ho := ro_new hn9 hu12 _ _ ho
    refine x_dup dX1_wish_65 rfl ?_
    refine x_iload_n dX1_wish_66 3 rfl rfl ?_
    refine x_iload_n dX1_wish_67 5 rfl rfl ?_
    refine x_if_eq (tgt := 75) dX1_wish_68 (by decide) (fun c8 => ?_) (fun c8 => ?_)
    · have hb : b = false := bI_0 c8
      have hk1 : k = 1 := by rw [hk, hb]; rfl
      refine x_iconst (v := nI 1) dX1_wish_75 (by decide) ?_
      refine x_iload dX1_wish_76 0 rfl ?_
      refine x_iconst (v := nI 1) dX1_wish_78 (by decide) ?_
      refine x_icmp_ne (tgt := 86) dX1_wish_79 (by decide) (fun c9 => ?_) (fun c9 => ?_)
      · have c9 := nNe (by omega) (by decide) c9
        have hst : (hw S m s == 1) = false := by simp [c9]
        refine x_iconst (v := nI 0) dX1_wish_86 (by decide) ?_
        refine x_top (x' := bI false) rfl ?_
        refine x_callI dX1_wish_87 (con_X4_init hc11 (x := nI m) (k := nI 1) (b := false)) (lw_meth q1075) q119 q1073 q1074 rfl (np := 3) (by decide +kernel) rfl ⟨Nat.le_of_ble_eq_true rfl, Nat.le_of_ble_eq_true rfl⟩ (Nat.le_of_ble_eq_true rfl) rfl (Nat.zero_le _) (Nat.zero_le _) (rV fun σ13 h5 => ?_) nV'
        exact x_aret dX1_wish_90 rfl (by first | exact Or.inl ⟨_, rfl⟩ | exact Or.inr ⟨_, rfl⟩) (Or.inr ⟨_, rfl⟩) (⟨_, rfl, hR.nn hn9, by rw [h5.1, hst, hk1], (hR.tr (ro_new hn9 hu12)).nx (hR.nn hn9) h5.2⟩)
      · have c9 := nEq (by omega) (by decide) c9
        have hst : (hw S m s == 1) = true := by simp [c9]
        refine x_iconst (v := nI 1) dX1_wish_82 (by decide) ?_
        refine x_goto (tgt := 87) dX1_wish_83 (by decide) ?_
        refine x_top (x' := bI true) rfl ?_
        refine x_callI dX1_wish_87 (con_X4_init hc11 (x := nI m) (k := nI 1) (b := true)) (lw_meth q1075) q119 q1073 q1074 rfl (np := 3) (by decide +kernel) rfl ⟨Nat.le_of_ble_eq_true rfl, Nat.le_of_ble_eq_true rfl⟩ (Nat.le_of_ble_eq_true rfl) rfl (Nat.zero_le _) (Nat.zero_le _) (rV fun σ15 h5 => ?_) nV'
        exact x_aret dX1_wish_90 rfl (by first | exact Or.inl ⟨_, rfl⟩ | exact Or.inr ⟨_, rfl⟩) (Or.inr ⟨_, rfl⟩) (⟨_, rfl, hR.nn hn9, by rw [h5.1, hst, hk1], (hR.tr (ro_new hn9 hu12)).nx (hR.nn hn9) h5.2⟩)
    · have hb : b = true := bI_1 c8
      have hk2 : k = 2 := by rw [hk, hb]; rfl
      refine x_iconst (v := nI 2) dX1_wish_71 (by decide) ?_
      refine x_goto (tgt := 76) dX1_wish_72 (by decide) ?_
      refine x_iload dX1_wish_76 0 rfl ?_
      refine x_iconst (v := nI 1) dX1_wish_78 (by decide) ?_
      refine x_icmp_ne (tgt := 86) dX1_wish_79 (by decide) (fun c9 => ?_) (fun c9 => ?_)
      · have c9 := nNe (by omega) (by decide) c9
        have hst : (hw S m s == 1) = false := by simp [c9]
        refine x_iconst (v := nI 0) dX1_wish_86 (by decide) ?_
        refine x_top (x' := bI false) rfl ?_
        refine x_callI dX1_wish_87 (con_X4_init hc11 (x := nI m) (k := nI 2) (b := false)) (lw_meth q1075) q119 q1073 q1074 rfl (np := 3) (by decide +kernel) rfl ⟨Nat.le_of_ble_eq_true rfl, Nat.le_of_ble_eq_true rfl⟩ (Nat.le_of_ble_eq_true rfl) rfl (Nat.zero_le _) (Nat.zero_le _) (rV fun σ17 h5 => ?_) nV'
        exact x_aret dX1_wish_90 rfl (by first | exact Or.inl ⟨_, rfl⟩ | exact Or.inr ⟨_, rfl⟩) (Or.inr ⟨_, rfl⟩) (⟨_, rfl, hR.nn hn9, by rw [h5.1, hst, hk2], (hR.tr (ro_new hn9 hu12)).nx (hR.nn hn9) h5.2⟩)
      · have c9 := nEq (by omega) (by decide) c9
        have hst : (hw S m s == 1) = true := by simp [c9]
        refine x_iconst (v := nI 1) dX1_wish_82 (by decide) ?_
        refine x_goto (tgt := 87) dX1_wish_83 (by decide) ?_
        refine x_top (x' := bI true) rfl ?_
        refine x_callI dX1_wish_87 (con_X4_init hc11 (x := nI m) (k := nI 2) (b := true)) (lw_meth q1075) q119 q1073 q1074 rfl (np := 3) (by decide +kernel) rfl ⟨Nat.le_of_ble_eq_true rfl, Nat.le_of_ble_eq_true rfl⟩ (Nat.le_of_ble_eq_true rfl) rfl (Nat.zero_le _) (Nat.zero_le _) (rV fun σ19 h5 => ?_) nV'
        exact x_aret dX1_wish_90 rfl (by first | exact Or.inl ⟨_, rfl⟩ | exact Or.inr ⟨_, rfl⟩) (Or.inr ⟨_, rfl⟩) (⟨_, rfl, hR.nn hn9, by rw [h5.1, hst, hk2], (hR.tr (ro_new hn9 hu12)).nx (hR.nn hn9) h5.2⟩)
  · have c1 := nEq (by omega) (by decide) c1
    have hbt : b = true := by
      cases b with
      | true => rfl
      | false => exact absurd (c1.trans hk.symm) hnk
    refine x_iload_n dX1_wish_47 5 rfl rfl ?_
    refine x_if_ne (tgt := 55) dX1_wish_48 (by decide) (fun _ => ?_) (fun h_ => absurd h_ (fun h => by rw [hbt] at h; cases h))
    refine x_iconst (v := nI 0) dX1_wish_55 (by decide) ?_
    refine x_iconst (v := nI 3) dX1_wish_56 (by decide) ?_
    refine x_iload dX1_wish_57 0 rfl ?_
    refine x_callSN dX1_wish_59 (con_X0_refuse0) (lw_meth q961) q85 q959 q960 (np := 3) (by decide +kernel) rfl ⟨Nat.le_of_ble_eq_true rfl, Nat.le_of_ble_eq_true rfl⟩ (Nat.le_of_ble_eq_true rfl) rfl (Nat.zero_le _) (Nat.zero_le _) (rSV ?_) nV'
    refine x_new (fs := [.int 0, .int 0, .int 0]) dX1_wish_62 vC_4 in_X4 tyX4_ok q915 q1072 q119 rfl (by omega) (by omega) (fun q σ21 hn22 hb23 hc24 hu25 => ?_)
    have ho := ro_new hn22 hu25 _ _ ho
    refine x_dup dX1_wish_65 rfl ?_
    refine x_iload_n dX1_wish_66 3 rfl rfl ?_
    refine x_iload_n dX1_wish_67 5 rfl rfl ?_
    refine x_if_eq (tgt := 75) dX1_wish_68 (by decide) (fun c8 => ?_) (fun c8 => ?_)
    · have hb : b = false := bI_0 c8
      have hk1 : k = 1 := by rw [hk, hb]; rfl
      refine x_iconst (v := nI 1) dX1_wish_75 (by decide) ?_
      refine x_iload dX1_wish_76 0 rfl ?_
      refine x_iconst (v := nI 1) dX1_wish_78 (by decide) ?_
      refine x_icmp_ne (tgt := 86) dX1_wish_79 (by decide) (fun c9 => ?_) (fun c9 => ?_)
      · have c9 := nNe (by omega) (by decide) c9
        have hst : (hw S m s == 1) = false := by simp [c9]
        refine x_iconst (v := nI 0) dX1_wish_86 (by decide) ?_
        refine x_top (x' := bI false) rfl ?_
        refine x_callI dX1_wish_87 (con_X4_init hc24 (x := nI m) (k := nI 1) (b := false)) (lw_meth q1075) q119 q1073 q1074 rfl (np := 3) (by decide +kernel) rfl ⟨Nat.le_of_ble_eq_true rfl, Nat.le_of_ble_eq_true rfl⟩ (Nat.le_of_ble_eq_true rfl) rfl (Nat.zero_le _) (Nat.zero_le _) (rV fun σ26 h5 => ?_) nV'
        exact x_aret dX1_wish_90 rfl (by first | exact Or.inl ⟨_, rfl⟩ | exact Or.inr ⟨_, rfl⟩) (Or.inr ⟨_, rfl⟩) (⟨_, rfl, hR.nn hn22, by rw [h5.1, hst, hk1], (hR.tr (ro_new hn22 hu25)).nx (hR.nn hn22) h5.2⟩)
      · have c9 := nEq (by omega) (by decide) c9
        have hst : (hw S m s == 1) = true := by simp [c9]
        refine x_iconst (v := nI 1) dX1_wish_82 (by decide) ?_
        refine x_goto (tgt := 87) dX1_wish_83 (by decide) ?_
        refine x_top (x' := bI true) rfl ?_
        refine x_callI dX1_wish_87 (con_X4_init hc24 (x := nI m) (k := nI 1) (b := true)) (lw_meth q1075) q119 q1073 q1074 rfl (np := 3) (by decide +kernel) rfl ⟨Nat.le_of_ble_eq_true rfl, Nat.le_of_ble_eq_true rfl⟩ (Nat.le_of_ble_eq_true rfl) rfl (Nat.zero_le _) (Nat.zero_le _) (rV fun σ28 h5 => ?_) nV'
        exact x_aret dX1_wish_90 rfl (by first | exact Or.inl ⟨_, rfl⟩ | exact Or.inr ⟨_, rfl⟩) (Or.inr ⟨_, rfl⟩) (⟨_, rfl, hR.nn hn22, by rw [h5.1, hst, hk1], (hR.tr (ro_new hn22 hu25)).nx (hR.nn hn22) h5.2⟩)
    · have hb : b = true := bI_1 c8
      have hk2 : k = 2 := by rw [hk, hb]; rfl
      refine x_iconst (v := nI 2) dX1_wish_71 (by decide) ?_
      refine x_goto (tgt := 76) dX1_wish_72 (by decide) ?_
      refine x_iload dX1_wish_76 0 rfl ?_
      refine x_iconst (v := nI 1) dX1_wish_78 (by decide) ?_
      refine x_icmp_ne (tgt := 86) dX1_wish_79 (by decide) (fun c9 => ?_) (fun c9 => ?_)
      · have c9 := nNe (by omega) (by decide) c9
        have hst : (hw S m s == 1) = false := by simp [c9]
        refine x_iconst (v := nI 0) dX1_wish_86 (by decide) ?_
        refine x_top (x' := bI false) rfl ?_
        refine x_callI dX1_wish_87 (con_X4_init hc24 (x := nI m) (k := nI 2) (b := false)) (lw_meth q1075) q119 q1073 q1074 rfl (np := 3) (by decide +kernel) rfl ⟨Nat.le_of_ble_eq_true rfl, Nat.le_of_ble_eq_true rfl⟩ (Nat.le_of_ble_eq_true rfl) rfl (Nat.zero_le _) (Nat.zero_le _) (rV fun σ30 h5 => ?_) nV'
        exact x_aret dX1_wish_90 rfl (by first | exact Or.inl ⟨_, rfl⟩ | exact Or.inr ⟨_, rfl⟩) (Or.inr ⟨_, rfl⟩) (⟨_, rfl, hR.nn hn22, by rw [h5.1, hst, hk2], (hR.tr (ro_new hn22 hu25)).nx (hR.nn hn22) h5.2⟩)
      · have c9 := nEq (by omega) (by decide) c9
        have hst : (hw S m s == 1) = true := by simp [c9]
        refine x_iconst (v := nI 1) dX1_wish_82 (by decide) ?_
        refine x_goto (tgt := 87) dX1_wish_83 (by decide) ?_
        refine x_top (x' := bI true) rfl ?_
        refine x_callI dX1_wish_87 (con_X4_init hc24 (x := nI m) (k := nI 2) (b := true)) (lw_meth q1075) q119 q1073 q1074 rfl (np := 3) (by decide +kernel) rfl ⟨Nat.le_of_ble_eq_true rfl, Nat.le_of_ble_eq_true rfl⟩ (Nat.le_of_ble_eq_true rfl) rfl (Nat.zero_le _) (Nat.zero_le _) (rV fun σ32 h5 => ?_) nV'
        exact x_aret dX1_wish_90 rfl (by first | exact Or.inl ⟨_, rfl⟩ | exact Or.inr ⟨_, rfl⟩) (Or.inr ⟨_, rfl⟩) (⟨_, rfl, hR.nn hn22, by rw [h5.1, hst, hk2], (hR.tr (ro_new hn22 hu25)).nx (hR.nn hn22) h5.2⟩)
