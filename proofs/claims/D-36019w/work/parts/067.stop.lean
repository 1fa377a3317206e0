/-! STOP -/
set_option maxRecDepth 100000
theorem kr_ext {S U : kr_St} (hI : ∀ a b, sI S a b = sI U a b) (hN : ∀ a b, sN S a b = sN U a b) (hL : ∀ a b, sL S a b = sL U a b) (hD : sD S = sD U) : S = U := by
  obtain ⟨I, N, L, D⟩ := S
  obtain ⟨I', N', L', D'⟩ := U
  have e1 : I = I' := funext fun a => funext fun b => hI a b
  have e2 : N = N' := funext fun a => funext fun b => hN a b
  have e3 : L = L' := funext fun a => funext fun b => hL a b
  have e4 : D = D' := hD
  rw [e1, e2, e3, e4]
/-- one device when player p stops -/
def oStop1 (p : Nat) (U : kr_St) (d : Nat) : kr_St := if sN U 9 d = p + 1 then oF (uL U 3 d ((sL U 3 d).erase p)) d else uL U 3 d ((sL U 3 d).erase p)
def oStopD (p : Nat) (S : kr_St) : Nat → kr_St
  | 0 => S
  | d + 1 => oStop1 p (oStopD p S d) d
def oGone (S : kr_St) (p : Nat) : kr_St := uN (uN S 8 p 0) 15 p 0
def oStop (S : kr_St) (p : Nat) : kr_St := oGone (oStopD p (uN (oLeave S p) 3 p 0) (sN S 14 0)) p
theorem oF_L (S : kr_St) (d a b : Nat) : sL (oF S d) a b = if a = 3 ∧ b = d then (sL S 3 d).tail else sL S a b := by
  unfold oF
  split
  · rename_i e
    rw [sL_uN]
    split
    · rename_i h
      rw [h.1, h.2, e]
      rfl
    · rfl
  · rename_i q qs e
    rw [sL_uN, sL_uN, sL_uL, e]
    rfl
theorem oF_I (S : kr_St) (d a b : Nat) : sI (oF S d) a b = sI S a b := by
  unfold oF
  split <;> rfl
theorem oF_D (S : kr_St) (d : Nat) : sD (oF S d) = sD S := by
  unfold oF
  split <;> rfl
theorem oF_9 (S : kr_St) (d b : Nat) : sN (oF S d) 9 b = if b = d then (match sL S 3 d with | [] => 0 | q :: _ => q + 1) else sN S 9 b := by
  unfold oF
  split
  · rename_i e
    rw [sN_uN, e]
    by_cases h : b = d
    · rw [if_pos ⟨rfl, h⟩, if_pos h]
    · rw [if_neg (fun z => h z.2), if_neg h]
  · rename_i q qs e
    rw [sN_uN, if_neg (fun z => absurd z.1 (by decide)), sN_uN, sN_uL, e]
    by_cases h : b = d
    · rw [if_pos ⟨rfl, h⟩, if_pos h]
    · rw [if_neg (fun z => h z.2), if_neg h]
theorem oF_8v (S : kr_St) (d b : Nat) : sN (oF S d) 8 b = if (sL S 3 d).head? = some b then 0 else sN S 8 b := by
  unfold oF
  split
  · rename_i e
    rw [sN_uN, if_neg (fun z => absurd z.1 (by decide)), e]
    rfl
  · rename_i q qs e
    rw [sN_uN, e, List.head?_cons]
    by_cases h : b = q
    · rw [if_pos ⟨rfl, h⟩, if_pos (by rw [h])]
    · rw [if_neg (fun z => h z.2), if_neg (fun z => h (Option.some.inj z).symm), sN_uN, if_neg (fun z => absurd z.1 (by decide)), sN_uL]
theorem oStop1_N (p : Nat) (U : kr_St) (d a b : Nat) (h8 : a ≠ 8) (h9 : a ≠ 9) : sN (oStop1 p U d) a b = sN U a b := by
  unfold oStop1
  split
  · rw [oF_N _ d a b h8 h9, sN_uL]
  · rfl
theorem oStop1_I (p : Nat) (U : kr_St) (d a b : Nat) : sI (oStop1 p U d) a b = sI U a b := by
  unfold oStop1
  split
  · rw [oF_I, sI_uL]
  · rfl
theorem oStop1_D (p : Nat) (U : kr_St) (d : Nat) : sD (oStop1 p U d) = sD U := by
  unfold oStop1
  split
  · rw [oF_D, sD_uL]
  · rfl
theorem oStop1_L (p : Nat) (U : kr_St) (d a b : Nat) (h : ¬ (a = 3 ∧ b = d)) : sL (oStop1 p U d) a b = sL U a b := by
  unfold oStop1
  split
  · rw [oF_L, if_neg h, sL_uL, if_neg h]
  · rw [sL_uL, if_neg h]
theorem oStop1_sub (p : Nat) (U : kr_St) (d : Nat) : ∀ q ∈ sL (oStop1 p U d) 3 d, q ∈ (sL U 3 d).erase p := by
  intro q hq
  unfold oStop1 at hq
  split at hq
  · rw [oF_L, if_pos ⟨rfl, rfl⟩, sL_uL, if_pos ⟨rfl, rfl⟩] at hq
    exact List.mem_of_mem_tail hq
  · rw [sL_uL, if_pos ⟨rfl, rfl⟩] at hq
    exact hq
theorem oStop1_9 (p : Nat) (U : kr_St) (d b : Nat) (h : b ≠ d) : sN (oStop1 p U d) 9 b = sN U 9 b := by
  unfold oStop1
  split
  · rw [oF_9, if_neg h, sN_uL]
  · rfl
theorem oStopD_N (p : Nat) (S : kr_St) (a b : Nat) (h8 : a ≠ 8) (h9 : a ≠ 9) : ∀ n, sN (oStopD p S n) a b = sN S a b
  | 0 => rfl
  | n + 1 => by
    show sN (oStop1 p (oStopD p S n) n) a b = _
    rw [oStop1_N p _ n a b h8 h9, oStopD_N p S a b h8 h9 n]
theorem oStopD_I (p : Nat) (S : kr_St) (a b : Nat) : ∀ n, sI (oStopD p S n) a b = sI S a b
  | 0 => rfl
  | n + 1 => by
    show sI (oStop1 p (oStopD p S n) n) a b = _
    rw [oStop1_I, oStopD_I p S a b n]
theorem oStopD_D (p : Nat) (S : kr_St) : ∀ n, sD (oStopD p S n) = sD S
  | 0 => rfl
  | n + 1 => by
    show sD (oStop1 p (oStopD p S n) n) = _
    rw [oStop1_D, oStopD_D p S n]
theorem oStopD_L (p : Nat) (S : kr_St) (a b : Nat) (h : a ≠ 3) : ∀ n, sL (oStopD p S n) a b = sL S a b
  | 0 => rfl
  | n + 1 => by
    show sL (oStop1 p (oStopD p S n) n) a b = _
    rw [oStop1_L p _ n a b (fun z => h z.1), oStopD_L p S a b h n]
theorem kr_V.leave {S : kr_St} (h : kr_V S) (p : Nat) : kr_V (oLeave S p) := by
  refine h.pl (fun b => oLeave_I S p 5 b) (fun b => oLeave_I S p 6 b) (fun a b ha => by rw [oLeave_L, if_neg (fun z => ha z.1)]) (fun a b _ _ _ _ => oLeave_N S p a b) (fun q hq => by rw [oLeave_N]; exact (h.2.2.2.2.1 q hq).2.2.2.1) (fun k hk q hq => ?_)
  rw [oLeave_L] at hq
  split at hq
  · exact h.2.1.1 k hk q (List.mem_of_mem_erase hq)
  · exact h.2.1.1 k hk q hq
theorem kr_V.own {S : kr_St} (h : kr_V S) {k n : Nat} : kr_V (uN S 3 k n) :=
  h.pl (fun _ => rfl) (fun _ => rfl) (fun _ _ _ => rfl) (fun a b h3 _ _ _ => by rw [sN_uN, if_neg (fun z => h3 z.1)]) (fun q hq => (h.2.2.2.2.1 q hq).2.2.2.1) (fun k hk q hq => h.2.1.1 k hk q hq)
/-- a device when p stops: all rules hold but that p's mark may be old -/
theorem oStop1_ok {p b : Nat} {U : kr_St} (h : kr_V (uN U 8 p b)) (hp : sN U 15 p = 1) {d : Nat} (hd : d < 6) : (∃ b', kr_V (uN (oStop1 p U d) 8 p b')) ∧ p ∉ sL (oStop1 p U d) 3 d ∧ sN (oStop1 p U d) 9 d ≠ p + 1 := by
  have hp' : sN (uN U 8 p b) 15 p = 1 := hp
  have e8 : sN (uN U 8 p b) 8 p = b := by rw [sN_uN, if_pos ⟨rfl, rfl⟩]
  have hnd : (sL U 3 d).Nodup := (h.2.2.2.2.2.1 d hd).2.1
  have hmem : ∀ q, q ∈ (sL U 3 d).erase p ↔ q ≠ p ∧ q ∈ sL U 3 d := fun q => hnd.mem_erase_iff
  have hx : ∀ x ∈ (sL U 3 d).erase p, sN (uN U 8 p b) 15 x = 1 := fun x hx => h.2.1.2.1 d (by rw [h.1.2.2.2]; exact hd) x (List.mem_of_mem_erase hx)
  have hb2 : b < 2 := by
    have := (h.2.2.2.2.1 p hp').2.2.1.1
    rwa [e8] at this
  obtain ⟨b1, hb1, hc1⟩ : ∃ b1, b1 < 2 ∧ b1 + (if p ∈ sL U 3 d then 1 else 0) = b := by
    by_cases hm : p ∈ sL U 3 d
    · have := h.mark hp' hd hm
      rw [e8] at this
      exact ⟨0, by decide, by rw [if_pos hm]; omega⟩
    · exact ⟨b, hb2, by rw [if_neg hm, Nat.add_zero]⟩
  have hV1 := h.queue (d := d) (p := p) (b := b1) (xs := (sL U 3 d).erase p) hd hp' hx (hnd.erase _) (fun x hxp => by rw [hmem]; exact ⟨fun z => z.2, fun z => ⟨hxp, z⟩⟩) hb1 (by rw [e8, if_neg (fun z => ((hmem p).mp z).1 rfl)]; exact hc1)
  have eU : uN (uL (uN U 8 p b) 3 d ((sL U 3 d).erase p)) 8 p b1 = uN (uL U 3 d ((sL U 3 d).erase p)) 8 p b1 := by
    refine kr_ext (fun _ _ => rfl) (fun a c => ?_) (fun _ _ => rfl) rfl
    rw [sN_uN, sN_uN, sN_uL, sN_uL, sN_uN]
    split <;> rfl
  rw [eU] at hV1
  have hno : p ∉ (sL U 3 d).erase p := fun z => ((hmem p).mp z).1 rfl
  refine ⟨?_, fun z => hno (oStop1_sub p U d p z), ?_⟩
  · unfold oStop1
    split
    · have hV2 := hV1.free hd
      have hhd : (sL (uL U 3 d ((sL U 3 d).erase p)) 3 d).head? ≠ some p := fun z => by
        rw [sL_uL, if_pos ⟨rfl, rfl⟩] at z
        exact hno (List.mem_of_mem_head? z)
      generalize uL U 3 d ((sL U 3 d).erase p) = W at hhd hV2 ⊢
      have e2 : oF (uN W 8 p b1) d = uN (oF W d) 8 p b1 := by
        refine kr_ext (fun a c => ?_) (fun a c => ?_) (fun a c => ?_) ?_
        · rw [oF_I, sI_uN, sI_uN, oF_I]
        · have r1 : a ≠ 8 → sN (uN (oF W d) 8 p b1) a c = sN (oF W d) a c := fun h => by rw [sN_uN, if_neg (fun z => h z.1)]
          have r2 : a ≠ 8 → sN (uN W 8 p b1) a c = sN W a c := fun h => by rw [sN_uN, if_neg (fun z => h z.1)]
          by_cases h8 : a = 8
          · subst h8
            rw [oF_8v]
            by_cases hc : c = p
            · subst hc
              rw [if_neg (show ¬ (sL (uN W 8 c b1) 3 d).head? = some c from hhd), sN_uN, if_pos ⟨rfl, rfl⟩, sN_uN, if_pos ⟨rfl, rfl⟩]
            · have r3 : sN (uN (oF W d) 8 p b1) 8 c = sN (oF W d) 8 c := by rw [sN_uN, if_neg (fun z => hc z.2)]
              have r4 : sN (uN W 8 p b1) 8 c = sN W 8 c := by rw [sN_uN, if_neg (fun z => hc z.2)]
              rw [r3, r4, oF_8v]
              rfl
          · by_cases h9 : a = 9
            · rw [r1 h8]
              subst h9
              rw [oF_9, oF_9, r2 h8]
              rfl
            · rw [r1 h8, oF_N _ d a c h8 h9, r2 h8, oF_N _ d a c h8 h9]
        · rw [oF_L]
          show _ = sL (oF W d) a c
          rw [oF_L]
          rfl
        · rw [oF_D, sD_uN, sD_uN, oF_D]
      rw [e2] at hV2
      exact ⟨b1, hV2⟩
    · exact ⟨b1, hV1⟩
  · unfold oStop1
    split
    · rw [oF_9, if_pos rfl, sL_uL, if_pos ⟨rfl, rfl⟩]
      split
      · omega
      · rename_i q qs e
        intro z
        obtain rfl : q = p := Nat.succ.inj z
        rw [e] at hno
        exact hno List.mem_cons_self
    · rename_i hn
      exact hn
theorem oStopD_ok {p b : Nat} {U : kr_St} (h : kr_V (uN U 8 p b)) (hp : sN U 15 p = 1) : ∀ n, n ≤ 6 → (∃ b', kr_V (uN (oStopD p U n) 8 p b')) ∧ ∀ d, d < n → p ∉ sL (oStopD p U n) 3 d ∧ sN (oStopD p U n) 9 d ≠ p + 1
  | 0, _ => ⟨⟨b, h⟩, fun d hd => absurd hd (Nat.not_lt_zero d)⟩
  | n + 1, hn => by
    obtain ⟨⟨b1, h1⟩, h2⟩ := oStopD_ok h hp n (by omega)
    obtain ⟨a1, a2, a3⟩ := oStop1_ok (d := n) h1 (by rw [oStopD_N p U 15 p (by decide) (by decide)]; exact hp) (by omega)
    refine ⟨a1, fun d hd => ?_⟩
    show p ∉ sL (oStop1 p (oStopD p U n) n) 3 d ∧ sN (oStop1 p (oStopD p U n) n) 9 d ≠ p + 1
    by_cases e : d = n
    · rw [e]
      exact ⟨a2, a3⟩
    · rw [oStop1_L p _ n 3 d (fun z => e z.2), oStop1_9 p _ n d e]
      exact h2 d (by omega)
/-- p is gone -/
theorem kr_V.gone {U : kr_St} {p b : Nat} (h : kr_V (uN U 8 p b)) (hq : ∀ d, d < 6 → p ∉ sL U 3 d ∧ sN U 9 d ≠ p + 1) (hk : ∀ k, k < sN U 1 0 → p ∉ sL U 2 k) : kr_V (oGone U p) := by
  obtain ⟨h1, ⟨i1, i2, i3, i4⟩, h3, h4, h5, h6, h7⟩ := h
  have h14 : sN U 14 0 = 6 := h1.2.2.2
  have e15 : ∀ q, sN (oGone U p) 15 q = if q = p then 0 else sN U 15 q := fun q => by
    unfold oGone
    rw [sN_uN]
    by_cases e : q = p
    · rw [if_pos ⟨rfl, e⟩, if_pos e]
    · rw [if_neg (fun z => e z.2), if_neg e, sN_uN, if_neg (fun z => absurd z.1 (by decide))]
  have e8 : ∀ q, q ≠ p → sN (oGone U p) 8 q = sN U 8 q := fun q e => by
    unfold oGone
    rw [sN_uN, if_neg (fun z => absurd z.1 (by decide)), sN_uN, if_neg (fun z => e z.2)]
  have eN : ∀ a c, a ≠ 8 → a ≠ 15 → sN (oGone U p) a c = sN U a c := fun a c n8 n15 => by
    unfold oGone
    rw [sN_uN, if_neg (fun z => n15 z.1), sN_uN, if_neg (fun z => n8 z.1)]
  have there : ∀ q, sN (oGone U p) 15 q = 1 → q ≠ p ∧ sN U 15 q = 1 := fun q hq => by
    rw [e15] at hq
    split at hq
    · cases hq
    · rename_i e
      exact ⟨e, hq⟩
  have back : ∀ q, q ≠ p → sN U 15 q = 1 → sN (oGone U p) 15 q = 1 := fun q e hq => by
    rw [e15, if_neg e]
    exact hq
  refine ⟨h1, ⟨fun k hk' q hq' => back q (fun z => hk k hk' (by rw [← z]; exact hq')) (i1 k hk' q hq'), fun d hd q hq' => back q (fun z => (hq d (by rw [← h14]; exact hd)).1 (by rw [← z]; exact hq')) (i2 d hd q hq'), i3, fun q hq' => i4 q (there q hq').2⟩, h3, h4, fun q hq' => ?_, fun d hd => ?_, h7⟩
  · obtain ⟨n1, n2⟩ := there q hq'
    obtain ⟨a1, a2, ⟨a3, a4⟩, a5, a6⟩ := h5 q n2
    rw [sN_uN, if_neg (fun z => n1 z.2)] at a3 a4
    exact ⟨a1, a2, ⟨by rw [e8 q n1]; exact a3, by rw [e8 q n1]; exact a4⟩, a5, a6⟩
  · obtain ⟨c1, c2⟩ := h6 d hd
    exact ⟨fun j hj => back j (fun z => (hq d hd).2 (by rw [← z]; exact hj)) (c1 j hj), c2⟩
theorem uN_same {S : kr_St} {f k : Nat} : uN S f k (sN S f k) = S := by
  refine kr_ext (fun _ _ => rfl) (fun a b => ?_) (fun _ _ => rfl) rfl
  rw [sN_uN]
  split
  · rename_i h
    rw [h.1, h.2]
  · rfl
theorem oStop_ok {S : kr_St} {p : Nat} (hV : kr_V S) (hP : kr_Pl S) (hp : sN S 15 p = 1) : kr_V (oStop S p) ∧ kr_Pl (oStop S p) ∧ sN (oStop S p) 1 0 = sN S 1 0 := by
  have hV0 : kr_V (uN (oLeave S p) 3 p 0) := (hV.leave p).own
  have hp0 : sN (uN (oLeave S p) 3 p 0) 15 p = 1 := by rw [sN_uN, if_neg (fun z => absurd z.1 (by decide)), oLeave_N]; exact hp
  obtain ⟨⟨b, h1⟩, h2⟩ := oStopD_ok (p := p) (b := sN (uN (oLeave S p) 3 p 0) 8 p) (U := uN (oLeave S p) 3 p 0) (by rw [uN_same]; exact hV0) hp0 (sN S 14 0) (Nat.le_of_eq hV.1.2.2.2)
  have hL : ∀ k, sL (oStopD p (uN (oLeave S p) 3 p 0) (sN S 14 0)) 2 k = if sN S 4 p = k + 1 then (sL S 2 k).erase p else sL S 2 k := fun k => by
    rw [oStopD_L p _ 2 k (by decide), sL_uN, oLeave_L]
    by_cases e : sN S 4 p = k + 1
    · rw [if_pos ⟨rfl, e⟩, if_pos e]
    · rw [if_neg (fun z => e z.2), if_neg e]
  obtain ⟨g1, g2⟩ := hP
  have hno : ∀ k, k < sN S 1 0 → (kr_wo S p k).Nodup ∧ ∀ q, q ∈ kr_wo S p k ↔ q ∈ sL S 2 k ∧ q ≠ p := fun k hk => g1.wo hk
  have hNm : ∀ a c, a ≠ 3 → a ≠ 8 → a ≠ 9 → a ≠ 15 → sN (oStop S p) a c = sN S a c := fun a c n3 n8 n9 n15 => by
    unfold oStop oGone
    rw [sN_uN, if_neg (fun z => n15 z.1), sN_uN, if_neg (fun z => n8 z.1), oStopD_N p _ a c n8 n9, sN_uN, if_neg (fun z => n3 z.1), oLeave_N]
  have hN3 : ∀ c, sN (oStop S p) 3 c = if c = p then 0 else sN S 3 c := fun c => by
    unfold oStop oGone
    rw [sN_uN, if_neg (fun z => absurd z.1 (by decide)), sN_uN, if_neg (fun z => absurd z.1 (by decide)), oStopD_N p _ 3 c (by decide) (by decide), sN_uN, oLeave_N]
    by_cases e : c = p
    · rw [if_pos ⟨rfl, e⟩, if_pos e]
    · rw [if_neg (fun z => e z.2), if_neg e]
  have hN15 : ∀ c, sN (oStop S p) 15 c = if c = p then 0 else sN S 15 c := fun c => by
    unfold oStop oGone
    rw [sN_uN]
    by_cases e : c = p
    · rw [if_pos ⟨rfl, e⟩, if_pos e]
    · rw [if_neg (fun z => e z.2), if_neg e, sN_uN, if_neg (fun z => absurd z.1 (by decide)), oStopD_N p _ 15 c (by decide) (by decide), sN_uN, if_neg (fun z => absurd z.1 (by decide)), oLeave_N]
  have hL2 : ∀ k, sL (oStop S p) 2 k = kr_wo S p k := fun k => hL k
  refine ⟨h1.gone (fun d hd => h2 d (by rw [hV.1.2.2.2]; exact hd)) (fun k hk => ?_), ⟨⟨fun q => ?_, fun k hk => ?_, fun k hk => ?_⟩, fun k hk => ?_⟩, hNm 1 0 (by decide) (by decide) (by decide) (by decide)⟩
  · rw [oStopD_N p _ 1 0 (by decide) (by decide), sN_uN, if_neg (fun z => absurd z.1 (by decide)), oLeave_N] at hk
    rw [hL]
    exact fun z => ((hno k hk).2 p).mp z |>.2 rfl
  · rw [hN15, hN3, hNm 1 0 (by decide) (by decide) (by decide) (by decide)]
    by_cases e : q = p
    · rw [if_pos e, if_pos e]
      exact ⟨(fun z => by cases z), fun z => by cases z.2⟩
    · rw [if_neg e, if_neg e]
      exact g1.1 q
  · rw [hNm 1 0 (by decide) (by decide) (by decide) (by decide)] at hk
    rw [hN3, hNm 6 k (by decide) (by decide) (by decide) (by decide), hNm 7 k (by decide) (by decide) (by decide) (by decide)]
    refine ⟨?_, (g1.2.1 k hk).2⟩
    split
    · decide
    · exact (g1.2.1 k hk).1
  · rw [hNm 1 0 (by decide) (by decide) (by decide) (by decide)] at hk
    rw [hL2]
    refine ⟨(hno k hk).1, fun q => ?_⟩
    rw [(hno k hk).2, hN15, hNm 4 q (by decide) (by decide) (by decide) (by decide), (g1.2.2 k hk).2]
    by_cases e : q = p
    · rw [if_pos e]
      exact ⟨fun z => absurd e z.2, fun z => by cases z.1⟩
    · rw [if_neg e]
      exact ⟨fun z => z.1, fun z => ⟨z, e⟩⟩
  · rw [hNm 1 0 (by decide) (by decide) (by decide) (by decide)] at hk
    have eI : sI (oStop S p) 3 k = sI S 3 k := by
      unfold oStop oGone
      rw [sI_uN, sI_uN, oStopD_I, sI_uN, oLeave_I]
    rw [hNm 7 k (by decide) (by decide) (by decide) (by decide), hL2, eI]
    refine ⟨fun z => ?_, (g2 k hk).2⟩
    unfold kr_wo
    rw [(g2 k hk).1 z]
    split <;> rfl
section
variable {G : kr_G} {l : Launch} {g g' : kr_Gh} {S S' : kr_St} {Z Z' : kr_Ro → Option kr_AE}
/-- the roles of a player that is gone are dropped -/
theorem kr_S.gone {H : Heap} {U : kr_St} {p : Nat} (h : kr_S G (gA g) (kr_cells G g U Z) H) (hg : kr_gok g) (hV : kr_V (oGone U p)) (hZ : ∀ r z, Z r ≠ some (.inr z)) : kr_S G (gA g) (kr_cells G g (oGone U p) Z) H := by
  refine h.sub (fun r e hr => ?_) (hV.2.1.elem hg.1 hZ)
  have e15 : ∀ q, sN (oGone U p) 15 q = 1 → q ≠ p ∧ sN U 15 q = 1 := fun q hq => by
    unfold oGone at hq
    rw [sN_uN] at hq
    by_cases e : q = p
    · rw [if_pos ⟨rfl, e⟩] at hq
      cases hq
    · rw [if_neg (fun z => e z.2), sN_uN, if_neg (fun z => absurd z.1 (by decide))] at hq
      exact ⟨e, hq⟩
  have e8 : ∀ q, q ≠ p → sN (oGone U p) 8 q = sN U 8 q := fun q e => by
    unfold oGone
    rw [sN_uN, if_neg (fun z => absurd z.1 (by decide)), sN_uN, if_neg (fun z => e z.2)]
  obtain ⟨a, b⟩ := r
  by_cases h18 : 18 ≤ a
  · rw [kc_Z (r := (a, b)) h18] at hr ⊢
    exact hr
  rcases (show a = 0 ∨ a = 1 ∨ a = 2 ∨ a = 3 ∨ a = 4 ∨ a = 5 ∨ a = 6 ∨ a = 7 ∨ a = 8 ∨ a = 9 ∨ a = 10 ∨ a = 11 ∨ a = 12 ∨ a = 13 ∨ a = 14 ∨ a = 15 ∨ a = 16 ∨ a = 17 by omega) with rfl | rfl | rfl | rfl | rfl | rfl | rfl | rfl | rfl | rfl | rfl | rfl | rfl | rfl | rfl | rfl | rfl | rfl
  case inr.inr.inr.inr.inr.inr.inr.inl =>
    by_cases h1 : sN (oGone U p) 15 b = 1
    · obtain ⟨n1, n2⟩ := e15 b h1
      rw [kc_7 h1, e8 b n1] at hr
      rw [kc_7 n2]
      exact hr
    · replace hr : (if sN (oGone U p) 15 b = 1 then _ else none) = some e := hr
      rw [if_neg h1] at hr
      cases hr
  case inr.inr.inr.inr.inr.inr.inr.inr.inl =>
    by_cases h1 : sN (oGone U p) 15 b = 1
    · obtain ⟨n1, n2⟩ := e15 b h1
      rw [kc_8 h1] at hr
      rw [kc_8 n2]
      exact hr
    · replace hr : (if sN (oGone U p) 15 b = 1 then _ else none) = some e := hr
      rw [if_neg h1] at hr
      cases hr
  case inr.inr.inr.inr.inr.inr.inr.inr.inr.inl =>
    by_cases h1 : sN (oGone U p) 15 (b / 4) = 1 ∧ b % 4 < sN (oGone U p) 5 (b / 4)
    · obtain ⟨n1, n2⟩ := e15 _ h1.1
      replace hr : (if sN (oGone U p) 15 (b / 4) = 1 ∧ b % 4 < sN (oGone U p) 5 (b / 4) then _ else none) = some e := hr
      rw [if_pos h1] at hr
      show (if sN U 15 (b / 4) = 1 ∧ b % 4 < sN U 5 (b / 4) then _ else none) = some e
      rw [if_pos ⟨n2, h1.2⟩]
      exact hr
    · replace hr : (if sN (oGone U p) 15 (b / 4) = 1 ∧ b % 4 < sN (oGone U p) 5 (b / 4) then _ else none) = some e := hr
      rw [if_neg h1] at hr
      cases hr
  case inr.inr.inr.inr.inr.inr.inr.inr.inr.inr.inl =>
    by_cases h1 : sN (oGone U p) 15 (b / 4) = 1 ∧ b % 4 < sN (oGone U p) 5 (b / 4)
    · obtain ⟨n1, n2⟩ := e15 _ h1.1
      replace hr : (if sN (oGone U p) 15 (b / 4) = 1 ∧ b % 4 < sN (oGone U p) 5 (b / 4) then _ else none) = some e := hr
      rw [if_pos h1] at hr
      show (if sN U 15 (b / 4) = 1 ∧ b % 4 < sN U 5 (b / 4) then _ else none) = some e
      rw [if_pos ⟨n2, h1.2⟩]
      exact hr
    · replace hr : (if sN (oGone U p) 15 (b / 4) = 1 ∧ b % 4 < sN (oGone U p) 5 (b / 4) then _ else none) = some e := hr
      rw [if_neg h1] at hr
      cases hr
  all_goals exact hr
end
