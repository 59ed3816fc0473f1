set_option maxRecDepth 100000
-- ===== no ring stays =====
theorem tg_sub {R R' : Nat → Nat → Prop} (h : ∀ a b, R' a b → (∃ c, R' b c) → R a b) {x y : Nat} (ht : Relation.TransGen R' x y) (hy : ∃ c, R' y c) : Relation.TransGen R x y := by
  induction ht with
  | single h1 => exact Relation.TransGen.single (h _ _ h1 hy)
  | tail h1 h2 ih => exact Relation.TransGen.tail (ih ⟨_, h2⟩) (h _ _ h2 hy)
theorem tg_head {R : Nat → Nat → Prop} {x y : Nat} (h : Relation.TransGen R x y) : ∃ c, R x c := by
  induction h with
  | single h1 => exact ⟨_, h1⟩
  | tail _ _ ih => exact ih
theorem NoRing.of {S T : AS} (hS : NoRing S) (h : ∀ a b, edge T a b = true → (∃ c, edge T b c = true) → edge S a b = true) : NoRing T := fun m hr =>
  hS m (tg_sub (R := fun a b => edge S a b = true) h hr (tg_head hr))
theorem edge_out {S : AS} {m : Nat} (h : aAt S m = none) : ¬ ∃ c, edge S m c = true := fun ⟨c, hc⟩ => by
  rw [edge_none h] at hc; cases hc
theorem brk_young : ∀ (f : Nat) {S : AS}, IV S → nW S ≤ f → young (brk f S) = none := by
  intro f
  induction f with
  | zero => intro S _ h; show young S = none; exact nW_zero (by omega)
  | succ f ih =>
    intro S hI h
    unfold brk
    cases hy : young S with
    | none => exact hy
    | some m => exact ih hI.iIncL.iLetAll (by have := nW_young hI hy; omega)
theorem yg_none {S : AS} : ∀ n, yg S n = none → ∀ m, m < n → ¬ reach S m m := by
  intro n
  induction n with
  | zero => intro _ m h; omega
  | succ n ih =>
    intro h m hm hr
    unfold yg at h
    by_cases e : rB S n n = true
    · rw [if_pos e] at h; cases h
    · rw [if_neg e] at h
      by_cases e2 : m = n
      · subst e2; exact e (rB_iff.mpr hr)
      · exact ih h m (by omega) hr
theorem young_none {S : AS} (hI : IV S) (h : young S = none) : NoRing S := fun m hr => yg_none _ h m (reach_lt hI hr) hr
theorem NoRing.young {S : AS} (h : NoRing S) : young S = none := by
  cases hy : Jvm.Pilot.CLarderLocksLaw_law_r9745_23e725.young S with
  | none => rfl
  | some m => exact absurd (young_some hy).2 (h m)
/-- fewer locks, fewer who wait -/
theorem aheadL_sub {a b : Nat} {r r' : List Wi} (hs : r'.Sublist r) (hn : (r.map (fun w => w.1)).Nodup) (hm : inRow a r' = true) (h : b ∈ aheadL a r') : b ∈ aheadL a r := by
  induction hs with
  | slnil => exact h
  | @cons l1 l2 x hs ih =>
    rw [List.map_cons, List.nodup_cons] at hn
    obtain ⟨w, hw1, hw2⟩ := inRow_iff.mp hm
    have : x.1 ≠ a := fun z => hn.1 (by rw [z, ← hw2]; exact List.mem_map_of_mem (hs.subset hw1))
    unfold aheadL
    rw [if_neg this]
    exact List.mem_cons_of_mem _ (ih hn.2 hm h)
  | @cons_cons l1 l2 x hs ih =>
    rw [List.map_cons, List.nodup_cons] at hn
    unfold aheadL at h ⊢
    by_cases e : x.1 = a
    · rw [if_pos e] at h; cases h
    · rw [if_neg e] at h ⊢
      rcases List.mem_cons.mp h with q | q
      · rw [q]; exact List.mem_cons_self
      · refine List.mem_cons_of_mem _ (ih hn.2 ?_ q)
        obtain ⟨w, hw1, hw2⟩ := inRow_iff.mp hm
        rcases List.mem_cons.mp hw1 with g | g
        · subst g; exact absurd hw2 e
        · exact inRow_iff.mpr ⟨w, g, hw2⟩
theorem edge_sub {S T : AS} (hS : IV S) (hT : UQ T) (hq : ∀ s, s < 8 → (qu T s).Sublist (qu S s)) {a b : Nat} (hc : nC T = nC S) (hh : ∀ s, hw T b s = 0 ∨ hw T b s = hw S b s) (h : edge T a b = true) : edge S a b = true := by
  cases ha : aAt T a with
  | none => rw [edge_none ha] at h; cases h
  | some s =>
    obtain ⟨hs, w, hw1⟩ := aAt_some ha
    obtain ⟨hm, he⟩ := wishIn_some hw1
    have hmS := (hq s hs).subset hm
    have haS : aAt S a = some s := by rw [← he]; exact aAt_row hS.uq hs hmS
    have hk : kindOf T a = kindOf S a := by
      unfold kindOf aWish
      rw [ha, haS]
      simp only
      rw [hw1, ← he, wish_row (hS.nd hs) hmS]
    rw [edge_at ha] at h
    rw [edge_at haS]
    rw [Bool.or_eq_true] at h ⊢
    rcases h with h | h
    · left
      rw [hc] at h
      rcases hh s with q | q
      · rw [q] at h; simp at h
      · rw [q, hk] at h; exact h
    · right
      rw [List.contains_eq_mem, decide_eq_true_eq] at h ⊢
      exact aheadL_sub (hq s hs) (hS.nd hs) (inRow_iff.mpr ⟨w, hm, he⟩) h
theorem NoRing.sub {S T : AS} (h : NoRing S) (hS : IV S) (hT : UQ T) (hc : nC T = nC S) (hq : ∀ s, s < 8 → (qu T s).Sublist (qu S s)) (hh : ∀ b s, (∃ c, edge T b c = true) → hw T b s = 0 ∨ hw T b s = hw S b s) : NoRing T :=
  h.of fun _ b he hb => edge_sub hS hT hq hc (fun s => hh b s hb) he
theorem rmW_sub {m : Nat} {l : List Wi} : (rmW m l).Sublist l := List.filter_sublist
theorem noMore_sub {S : AS} {m s : Nat} : (qu (noMore S m) s).Sublist (qu S s) := by
  unfold noMore
  split
  · exact List.Sublist.refl _
  · rw [sRow_q]
    split
    · rename_i e; rw [e]; exact rmW_sub
    · exact List.Sublist.refl _
theorem noMore_hw {S : AS} {m : Nat} : hw (noMore S m) = hw S ∧ nC (noMore S m) = nC S := by
  unfold noMore
  split <;> exact ⟨rfl, rfl⟩
theorem NoRing.noM {S : AS} (h : NoRing S) (hI : IV S) {m : Nat} : NoRing (noMore S m) := h.sub hI hI.iNoMore.uq noMore_hw.2 (fun _ _ => noMore_sub) (fun b s _ => Or.inr (by rw [noMore_hw.1]))
theorem NoRing.clear {S : AS} (h : NoRing S) (hI : IV S) {m : Nat} (hn : aAt S m = none) : NoRing (clearHw S m) := h.sub hI (hI.clear hn).uq rfl (fun _ _ => List.Sublist.refl _) (fun b s _ => by
  show fset (hw S) m _ b s = 0 ∨ fset (hw S) m _ b s = hw S b s
  by_cases e : b = m
  · subst e; rw [fset_s]; split
    · exact Or.inl rfl
    · exact Or.inr rfl
  · rw [fset_n e]; exact Or.inr rfl)
theorem NoRing.next {S : AS} (h : NoRing S) (hI : IV S) {s : Nat} (hs : s < 8) {w : Wi} {ws : List Wi} (hq : qu S s = w :: ws) : NoRing (giveW (sRow S s ws) s w) := by
  have hI2 := hI.next hs hq
  have hat : aAt (giveW (sRow S s ws) s w) w.1 = none := by
    have := noMore_head hI hs hq
    have h2 : aAt (noMore S w.1) w.1 = none := noMore_self hI.uq
    rw [this.2.2] at h2
    exact h2
  refine h.sub hI hI2.uq rfl (fun s' _ => ?_) (fun b s' hb => ?_)
  · show (qu (sRow S s ws) s').Sublist _
    rw [sRow_q]
    split
    · rename_i e; rw [e, hq]; exact List.sublist_cons_self _ _
    · exact List.Sublist.refl _
  · have hne : b ≠ w.1 := fun z => by subst z; exact edge_out hat hb
    show fset (hw S) w.1 _ b s' = 0 ∨ _ = hw S b s'
    right
    show fset (hw S) w.1 _ b s' = _
    rw [fset_n hne]
theorem NoRing.serve {S : AS} (h : NoRing S) (hI : IV S) {s : Nat} (hs : s < 8) : NoRing (serve S s).1 :=
  serve_ind (fun S r => NoRing S → NoRing r.1) hs (fun _ _ _ h => h) (fun _ _ _ hI hq _ h hn => h (hn.next hI hs hq)) _ S hI rfl h
theorem NoRing.serveUp {hd : Nat → Bool} {r : AS × Nat} (h : NoRing r.1) (hI : IV r.1) : ∀ k, k ≤ 8 → NoRing (serveUp hd r k).1 := by
  intro k
  induction k with
  | zero => intro _; exact h
  | succ k ih =>
    intro hk
    have h1 := ih (by omega)
    unfold Jvm.Pilot.CLarderLocksLaw_law_r9745_23e725.serveUp
    split
    · exact h1.serve (IV.iServeUp hI k (by omega)) (by omega)
    · exact h1
theorem NoRing.letAll {S : AS} (h : NoRing S) (hI : IV S) {m : Nat} : NoRing (letAll S m).1 := by
  have hat := noMore_self hI.uq (m := m)
  have h1 : IV (clearHw (noMore S m) m) := hI.iNoMore.clear hat
  have h2 := (h.noM hI (m := m)).clear hI.iNoMore hat
  unfold Jvm.Pilot.CLarderLocksLaw_law_r9745_23e725.letAll
  cases ha : aAt S m with
  | none => exact NoRing.serveUp (r := (clearHw (noMore S m) m, 0)) h2 h1 8 (Nat.le_refl _)
  | some s => exact NoRing.serveUp (h2.serve h1 (aAt_some ha).1) (h1.iServe (aAt_some ha).1) 8 (Nat.le_refl _)
theorem NoRing.give {S : AS} (h : NoRing S) (hI : IV S) {s m k : Nat} {b : Bool} (hat : aAt S m = none) (hI2 : UQ (giveW S s (m, k, b))) : NoRing (giveW S s (m, k, b)) :=
  h.sub hI hI2 rfl (fun _ _ => List.Sublist.refl _) (fun x s' hb => by
    have hat2 : aAt (giveW S s (m, k, b)) m = none := hat
    have hne : x ≠ m := fun z => by subst z; exact edge_out hat2 hb
    right
    show fset (hw S) m _ x s' = _
    rw [fset_n hne])
-- ===== what holds between two calls =====
def LQ (S : AS) : Prop := ∀ s, s < 8 → (qu S s).length ≤ lQ S s ∧ lQ S s ≤ 8
def HZ (S : AS) : Prop := ∀ m s, 8 ≤ s → hw S m s = 0
def AI (S : AS) : Prop := IV S ∧ HZ S ∧ LQ S ∧ NoRing S
theorem AI.iv {S : AS} (h : AI S) : IV S := h.1
theorem AI.iq {S : AS} (h : AI S) : IQ S := fun s hs => (h.2.2.1 s hs).2
theorem HZ.give {S : AS} (h : HZ S) {s : Nat} (hs : s < 8) {w : Wi} {l : List Wi} : HZ (giveW (sRow S s l) s w) := fun m s' hs' => by
  show fset (hw S) w.1 (fset (hw S w.1) s w.2.1) m s' = 0
  by_cases e : m = w.1
  · subst e; rw [fset_s, fset_n (by omega)]; exact h _ s' hs'
  · rw [fset_n e]; exact h m s' hs'
theorem HZ.serve {S : AS} (h : HZ S) (hI : IV S) {s : Nat} (hs : s < 8) : HZ (serve S s).1 :=
  serve_ind (fun S r => HZ S → HZ r.1) hs (fun _ _ _ h => h) (fun _ _ _ _ _ _ h hz => h (hz.give hs)) _ S hI rfl h
theorem HZ.serveUp {hd : Nat → Bool} {r : AS × Nat} (h : HZ r.1) (hI : IV r.1) : ∀ k, k ≤ 8 → HZ (serveUp hd r k).1 := by
  intro k
  induction k with
  | zero => intro _; exact h
  | succ k ih =>
    intro hk
    have h1 := ih (by omega)
    unfold Jvm.Pilot.CLarderLocksLaw_law_r9745_23e725.serveUp
    split
    · exact h1.serve (IV.iServeUp hI k (by omega)) (by omega)
    · exact h1
theorem HZ.noM {S : AS} (h : HZ S) {m : Nat} : HZ (noMore S m) := fun x s hs => by rw [noMore_hw.1]; exact h x s hs
theorem HZ.clear {S : AS} (h : HZ S) {m : Nat} : HZ (clearHw S m) := fun x s hs => by
  show fset (hw S) m _ x s = 0
  by_cases e : x = m
  · subst e; rw [fset_s, if_neg (by omega)]; exact h _ s hs
  · rw [fset_n e]; exact h x s hs
theorem HZ.letAll {S : AS} (h : HZ S) (hI : IV S) {m : Nat} : HZ (letAll S m).1 := by
  have hat := noMore_self hI.uq (m := m)
  have h1 : IV (clearHw (noMore S m) m) := hI.iNoMore.clear hat
  have h2 : HZ (clearHw (noMore S m) m) := h.noM.clear
  unfold Jvm.Pilot.CLarderLocksLaw_law_r9745_23e725.letAll
  cases ha : aAt S m with
  | none => exact HZ.serveUp (r := (clearHw (noMore S m) m, 0)) h2 h1 8 (Nat.le_refl _)
  | some s => exact HZ.serveUp (h2.serve h1 (aAt_some ha).1) (h1.iServe (aAt_some ha).1) 8 (Nat.le_refl _)
theorem HZ.brk : ∀ (f : Nat) {S : AS}, HZ S → IV S → HZ (brk f S) := by
  intro f
  induction f with
  | zero => intro S h _; exact h
  | succ f ih =>
    intro S h hI
    unfold Jvm.Pilot.CLarderLocksLaw_law_r9745_23e725.brk
    cases young S with
    | none => exact h
    | some m => exact ih (HZ.letAll (S := incL S m) h hI.iIncL) hI.iIncL.iLetAll
theorem LQ.of {S T : AS} (h : LQ S) (hq : QLe T S) (hk : lQ T = lQ S) : LQ T := fun s hs => by rw [hk]; exact ⟨Nat.le_trans (hq s hs) (h s hs).1, (h s hs).2⟩
theorem cnts_id {S : AS} (h : LQ S) : cnts S = S := by
  have : (fun s => if s < 8 then Nat.max (lQ S s) (qu S s).length else lQ S s) = lQ S := by
    funext s
    by_cases e : s < 8
    · rw [if_pos e]; exact Nat.max_eq_left (h s e).1
    · rw [if_neg e]
  unfold cnts
  rw [this]
  rfl
theorem QLe.noM {S : AS} {m : Nat} : QLe (noMore S m) S := fun s _ => noMore_sub.length_le
theorem QLe.letAll {S : AS} (h : IV S) {m : Nat} : QLe (letAll S m).1 S := by
  have h1 : IV (clearHw (noMore S m) m) := h.iNoMore.clear (noMore_self h.uq)
  have h2 : QLe (clearHw (noMore S m) m) S := fun s _ => noMore_sub.length_le
  unfold Jvm.Pilot.CLarderLocksLaw_law_r9745_23e725.letAll
  cases ha : aAt S m with
  | none => exact (QLe.serveUp (r := (clearHw (noMore S m) m, 0)) h1 8 (Nat.le_refl _)).tr h2
  | some s => exact ((QLe.serveUp (h1.iServe (aAt_some ha).1) 8 (Nat.le_refl _)).tr (QLe.serve h1 (aAt_some ha).1)).tr h2
theorem AI.zero : AI AS0 := by
  have hq : ∀ s, qu AS0 s = [] := fun _ => rfl
  refine ⟨⟨by decide, (fun m h => by cases h), fun m s => Nat.zero_le _, fun m s h => absurd rfl h, (fun s _ w h => by rw [hq] at h; cases h), (fun s _ => by rw [hq]; exact List.nodup_nil), (fun s s' _ _ w h => by rw [hq] at h; cases h), (fun s _ => by rw [hq]; exact List.Pairwise.nil), by decide, by decide⟩, fun _ _ _ => rfl, fun s _ => ⟨by rw [hq]; exact Nat.zero_le _, Nat.zero_le _⟩, fun m hr => ?_⟩
  obtain ⟨s, hs⟩ := reach_wait hr
  obtain ⟨h8, w, hw1⟩ := aAt_some hs
  rw [hq] at hw1
  cases hw1
theorem cn_set {f : Nat → Bool} {i n : Nat} (hi : i < n) (hf : f i = false) : cn (fset f i true) n = cn f n + 1 := cn_add (o := i) (fun j => by
  by_cases e : j = i
  · subst e; rw [fset_s]; simp
  · rw [fset_n e]; simp [e]) hf hi
theorem cn_unset {f : Nat → Bool} {i n : Nat} (hi : i < n) (hf : f i = true) : cn (fset f i false) n + 1 = cn f n := by
  have h := cn_set (f := fset f i false) hi fset_s
  have e : fset (fset f i false) i true = f := by
    funext j
    by_cases e : j = i
    · subst e; rw [fset_s, hf]
    · rw [fset_n e, fset_n e]
  rw [e] at h
  exact h.symm
theorem AI.maid {S T : AS} {t : Nat} (h : AI S) (he : opMaid S = .inr (T, t)) : AI T := by
  unfold opMaid at he
  split at he
  · cases he
  · split at he
    · cases he
    · rename_i h24 h8
      cases he
      have hC := h.1.c
      obtain ⟨hat, hth, hhw⟩ := h.1.ge (Nat.le_refl _)
      obtain ⟨i1, i2, i3, i4, i5, i6, i7, i8, i9, i10⟩ := h.1
      have hcn := cn_set (f := tH S) (i := nC S) (n := 24) (by omega) hth
      have hset : ∀ m, tH S m = true → fset (tH S) (nC S) true m = true := fun m hm => by
        by_cases e : m = nC S
        · subst e; exact fset_s
        · rw [fset_n e]; exact hm
      refine ⟨⟨by show nC S + 1 ≤ 24; omega, fun m hm => ?_, i3, fun m s hms => hset m (i4 m s hms), fun s hs w hw => ⟨hset _ (i5 s hs w hw).1, (i5 s hs w hw).2⟩, i6, i7, i8, ?_, ?_⟩, h.2.1, h.2.2.1, h.2.2.2.of fun a b hab _ => ?_⟩
      · show m < nC S + 1
        by_cases e : m = nC S
        · omega
        · have : fset (tH S) (nC S) true m = true := hm
          rw [fset_n e] at this
          have := i2 m this
          omega
      · show cn (fset (tH S) (nC S) true) 24 + nE S = nC S + 1
        omega
      · show cn (fset (tH S) (nC S) true) 24 ≤ 8
        omega
      · cases ha : aAt S a with
        | none => have : aAt (sNC (sTH S (fset (tH S) (nC S) true)) (nC S + 1)) a = none := ha
                  rw [edge_none this] at hab; cases hab
        | some s =>
          have ha2 : aAt (sNC (sTH S (fset (tH S) (nC S) true)) (nC S + 1)) a = some s := ha
          rw [edge_at ha2] at hab
          rw [edge_at ha]
          have hab' : ((decide (b < nC S + 1) && !(b == a) && (hw S b s == 2 || (hw S b s == 1 && kindOf S a == 2))) || (aheadL a (qu S s)).contains b) = true := hab
          rw [Bool.or_eq_true] at hab' ⊢
          rcases hab' with q | q
          · left
            by_cases e : b = nC S
            · subst e; rw [hhw] at q; simp at q
            · have : decide (b < nC S + 1) = decide (b < nC S) := by
                by_cases z : b < nC S
                · rw [decide_eq_true z, decide_eq_true (by omega)]
                · rw [decide_eq_false z, decide_eq_false (by omega)]
              rw [this] at q; exact q
          · exact Or.inr q
theorem AI.want {S T : AS} {m s k t : Nat} (h : AI S) (ht : tH S m = true) (hs : s < 8) (hk : k = 1 ∨ k = 2) (he : opWant S m s k = .inr (T, t)) : AI T := by
  cases hb : bar S m s k with
  | some r => rw [opWant_some hb] at he; cases he
  | none =>
    rw [opWant_none hb] at he
    obtain ⟨hat, hn2, hnk⟩ := bar_none hb
    have h2 := h.1.2.2.1 m s
    have he' : wA S m s k = (T, t) := by injection he
    unfold wA at he'
    split at he'
    · cases he'
      have hI2 : IV (giveW S s (m, k, hw S m s == 1)) := h.1.iGiveW ht (by show k ≤ 2; omega) hat
      exact ⟨hI2, (by have := HZ.give (l := qu S s) (w := (m, k, hw S m s == 1)) h.2.1 hs; rw [sRow_self] at this; exact this), h.2.2.1.of (fun _ _ => Nat.le_refl _) rfl, h.2.2.2.give h.1 hat hI2.uq⟩
    · unfold opWait at he'
      cases he'
      have hIW : IV (waitW S s (m, k, hw S m s == 1)) := h.1.iWaitW hs ht hk (by omega) hat
      have hIB := IV.iBrk (nW (waitW S s (m, k, hw S m s == 1))) hIW
      have hKB := KP.br (nW (waitW S s (m, k, hw S m s == 1))) hIW
      refine ⟨hIB.iCnts, HZ.brk _ (S := waitW S s (m, k, hw S m s == 1)) h.2.1 hIW, fun s' hs' => ?_, (young_none hIB (brk_young _ hIW (Nat.le_refl _)) : NoRing (brk _ _))⟩
      show _ ∧ (if s' < 8 then Nat.max _ _ else _) ≤ 8
      constructor
      · show (qu (brk _ _) s').length ≤ if s' < 8 then Nat.max _ _ else _
        rw [if_pos hs']; exact Nat.le_max_right _ _
      · rw [if_pos hs', hKB.2.2.2.1]
        exact Nat.max_le.mpr ⟨(h.2.2.1 s' hs').2, hIB.len hs'⟩
theorem AI.free {S T : AS} {m s t : Nat} (h : AI S) (hs : s < 8) (he : opFree S m s = .inr (T, t)) : AI T := by
  unfold opFree at he
  split at he
  · cases he
  · rename_i h0
    have he' := Sum.inr.inj he
    obtain ⟨T1, hT1⟩ : ∃ T1, T1 = (if aAt S m = some s then noMore S m else S) := ⟨_, rfl⟩
    rw [← hT1] at he'
    have hIT : IV T1 := by
      rw [hT1]; split
      · exact h.1.iNoMore
      · exact h.1
    have hNT : NoRing T1 := by
      rw [hT1]; split
      · exact h.2.2.2.noM h.1
      · exact h.2.2.2
    have hhT : hw T1 = hw S := by
      rw [hT1]; split
      · exact noMore_hw.1
      · rfl
    have hQT : QLe T1 S ∧ lQ T1 = lQ S := by
      rw [hT1]; split
      · refine ⟨QLe.noM, ?_⟩
        unfold noMore
        split <;> rfl
      · exact ⟨QLe.rf, rfl⟩
    have hwT : wishIn m (qu T1 s) = none := by
      rw [hT1]
      split
      · exact aAt_none.mp (noMore_self h.1.uq) s hs
      · rename_i hn
        cases hq : wishIn m (qu S s) with
        | none => rfl
        | some x => exact absurd (aAt_uq h.1.uq hs hq) hn
    have hIF : IV (sHw T1 (fset (hw T1) m (fset (hw T1 m) s 0))) := hIT.hwm (fun z => by
        by_cases e : z = s
        · subst e; rw [fset_s]; omega
        · rw [fset_n e]; exact hIT.2.2.1 m z) (fun z h => by
        by_cases e : z = s
        · subst e; rw [fset_s] at h; exact absurd rfl h
        · rw [fset_n e] at h; exact hIT.2.2.2.1 m z h) (fun z hz h => by
        by_cases e : z = s
        · subst e; exact hwT
        · rw [fset_n e] at h; exact absurd rfl h)
    have hNF : NoRing (sHw T1 (fset (hw T1) m (fset (hw T1 m) s 0))) := hNT.sub hIT hIF.uq rfl (fun _ _ => List.Sublist.refl _) (fun b s' _ => by
      show fset (hw T1) m _ b s' = 0 ∨ fset (hw T1) m _ b s' = hw T1 b s'
      by_cases e : b = m
      · subst e; rw [fset_s]
        by_cases e2 : s' = s
        · subst e2; rw [fset_s]; exact Or.inl rfl
        · rw [fset_n e2]; exact Or.inr rfl
      · rw [fset_n e]; exact Or.inr rfl)
    rw [← hhT] at he'
    have hT := congrArg Prod.fst he'
    have hT' : T = (serve (sHw T1 (fset (hw T1) m (fset (hw T1 m) s 0))) s).1 := hT.symm
    rw [hT']
    have hZF : HZ (sHw T1 (fset (hw T1) m (fset (hw T1 m) s 0))) := fun x s' hs' => by
      show fset (hw T1) m _ x s' = 0
      by_cases e : x = m
      · subst e; rw [fset_s, fset_n (by omega), hhT]; exact h.2.1 _ s' hs'
      · rw [fset_n e, hhT]; exact h.2.1 x s' hs'
    refine ⟨hIF.iServe hs, hZF.serve hIF hs, h.2.2.1.of ((QLe.serve hIF hs).tr hQT.1) ?_, hNF.serve hIF hs⟩
    rw [(KP.sv hIF hs).2.2.2.1]; exact hQT.2
theorem gone_serve {S : AS} {m s : Nat} (hI : IV S) (hs : s < 8) (ha : aAt S m = none) : aAt (serve S s).1 m = none ∧ hw (serve S s).1 m = hw S m :=
  serve_ind (fun S r => aAt S m = none → aAt r.1 m = none ∧ hw r.1 m = hw S m) hs (fun _ _ _ h => ⟨h, rfl⟩) (fun S w ws hI hq _ h ha => by
    have hne : m ≠ w.1 := fun z => by
      have := aAt_row hI.uq hs (w := w) (by rw [hq]; exact List.mem_cons_self)
      rw [← z, ha] at this; cases this
    have ha2 : aAt (giveW (sRow S s ws) s w) m = none := by
      have h3 := noMore_head hI hs hq
      have h4 : aAt (noMore S w.1) m = aAt S m := aAt_congr (fun s' _ => noMore_wish hne)
      rw [h3.2.2] at h4
      exact h4.trans ha
    refine ⟨(h ha2).1, (h ha2).2.trans ?_⟩
    show fset (hw S) w.1 _ m = hw S m
    rw [fset_n hne]) _ S hI rfl ha
theorem gone_serveUp {hd : Nat → Bool} {r : AS × Nat} {m : Nat} (hI : IV r.1) (ha : aAt r.1 m = none) : ∀ k, k ≤ 8 → aAt (serveUp hd r k).1 m = none ∧ hw (serveUp hd r k).1 m = hw r.1 m := by
  intro k
  induction k with
  | zero => intro _; exact ⟨ha, rfl⟩
  | succ k ih =>
    intro hk
    have h1 := ih (by omega)
    unfold serveUp
    split
    · have h2 := gone_serve (IV.iServeUp (hd := hd) hI k (by omega)) (s := k) (by omega) h1.1
      exact ⟨h2.1, h2.2.trans h1.2⟩
    · exact h1
theorem letAll_gone {S : AS} {m : Nat} (hI : IV S) (hZ : HZ S) : aAt (letAll S m).1 m = none ∧ ∀ s, hw (letAll S m).1 m s = 0 := by
  have hat := noMore_self hI.uq (m := m)
  have h1 : IV (clearHw (noMore S m) m) := hI.iNoMore.clear hat
  have h2 : aAt (clearHw (noMore S m) m) m = none := hat
  have h3 : ∀ s, hw (clearHw (noMore S m) m) m s = 0 := fun s => by
    show fset (hw (noMore S m)) m _ m s = 0
    rw [fset_s]
    by_cases e : s < 8
    · rw [if_pos e]
    · rw [if_neg e]; exact hZ.noM m s (by omega)
  unfold letAll
  cases ha : aAt S m with
  | none =>
    have := gone_serveUp (hd := fun k => !(hw (noMore S m) m k == 0)) (r := (clearHw (noMore S m) m, 0)) h1 h2 8 (Nat.le_refl _)
    exact ⟨this.1, fun s => by rw [this.2]; exact h3 s⟩
  | some s =>
    have g := gone_serve h1 (aAt_some ha).1 h2
    have := gone_serveUp (hd := fun k => !(hw (noMore S m) m k == 0)) (h1.iServe (aAt_some ha).1) g.1 8 (Nat.le_refl _)
    exact ⟨this.1, fun s' => by rw [this.2, g.2]; exact h3 s'⟩
theorem AI.fin {S : AS} {m : Nat} (h : AI S) (ht : tH S m = true) : AI (opEnd S m).1 := by
  have hIL := h.1.iLetAll (m := m)
  have hKL := KP.let h.1 (m := m)
  have hNL := h.2.2.2.letAll h.1 (m := m)
  have hZL := h.2.1.letAll h.1 (m := m)
  have hm := h.1.th ht
  have hC := h.1.c
  obtain ⟨i1, i2, i3, i4, i5, i6, i7, i8, i9, i10⟩ := hIL
  have hgone : aAt (letAll S m).1 m = none ∧ ∀ s, hw (letAll S m).1 m s = 0 := letAll_gone h.1 h.2.1
  have hcn := cn_unset (f := tH (letAll S m).1) (i := m) (n := 24) (by omega) (by rw [hKL.2.2.1]; exact ht)
  have hoff : ∀ x, x ≠ m → tH (letAll S m).1 x = true → fset (tH (letAll S m).1) m false x = true := fun x hx h => by rw [fset_n hx]; exact h
  have hEq : (opEnd S m).1 = sNE (sTH (letAll S m).1 (fset (tH (letAll S m).1) m false)) (nE S + 1) := by unfold opEnd; rw [hKL.2.2.1]
  rw [hEq]
  refine ⟨⟨i1, fun x hx => ?_, i3, fun x s hxs => ?_, fun s hs w hw => ⟨hoff _ (fun z => ?_) (i5 s hs w hw).1, (i5 s hs w hw).2⟩, i6, i7, i8, ?_, ?_⟩, hZL, h.2.2.1.of (QLe.letAll h.1) hKL.2.2.2.1, hNL⟩
  · have hx' : fset (tH (letAll S m).1) m false x = true := hx
    by_cases e : x = m
    · subst e; rw [fset_s] at hx'; cases hx'
    · rw [fset_n e] at hx'; exact i2 x hx'
  · refine hoff x (fun z => ?_) (i4 x s hxs)
    subst z
    exact hxs (hgone.2 s)
  · have := aAt_none.mp hgone.1 s hs
    exact wishIn_none.mp this w hw z
  · show cn (fset (tH (letAll S m).1) m false) 24 + (nE S + 1) = nC (letAll S m).1
    rw [← hKL.2.1]; omega
  · show cn (fset (tH (letAll S m).1) m false) 24 ≤ 8
    omega
