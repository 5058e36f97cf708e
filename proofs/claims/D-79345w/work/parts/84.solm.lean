/-! a search looks at the bits of the rules that are there -/
set_option maxRecDepth 100000
def mEq (S : Nat → Nat) (m m' : Int32) : Prop := ∀ r, r < S 1 → (m >>> (nI r &&& 31)) &&& nI 1 = (m' >>> (nI r &&& 31)) &&& nI 1
theorem fit_m {S : Nat → Nat} {m m' : Int32} (h : mEq S m m') (p : Nat) (c : Nat → Nat) : fit_ S m p c = fit_ S m' p c := by
  have : ∀ n, n ≤ S 1 → fitN S m p c n = fitN S m' p c n := by
    intro n
    induction n with
    | zero => intro _; rfl
    | succ n ih =>
      intro hn
      unfold fitN fit1
      rw [ih (by omega), h n (by omega)]
  exact this _ (Nat.le_refl _)
theorem rchT_m {S : Nat → Nat} {m m' : Int32} (h : mEq S m m') (c : Nat → Nat) : ∀ t, rchT S c m t = rchT S c m' t := by
  have hR : ∀ r w, r ≤ S 1 → rchR S c m r w = rchR S c m' r w := by
    intro r
    induction r with
    | zero => intro w _; rfl
    | succ r ih =>
      intro w hr
      unfold rchR rch1
      rw [ih w (by omega), h r (by omega)]
  intro t
  induction t with
  | zero => rfl
  | succ t ih => unfold rchT; rw [ih, hR _ _ (Nat.le_refl _)]
theorem unr_m {S : Nat → Nat} {m m' : Int32} (h : mEq S m m') (c : Nat → Nat) : unr S c m = unr S c m' := by
  unfold unr
  rw [rchT_m h]
theorem triF_m {S : Nat → Nat} {m m' : Int32} (h : mEq S m m') (most : Nat) : ∀ (d : Nat) (c : Nat → Nat) (Y : t_Y), triF S m most d c Y = triF S m' most d c Y
  | 0, c, Y => by unfold triF; rw [unr_m h]
  | d + 1, c, Y => by
    unfold triF
    have e : (fun k Y => if fit_ S m (S 0 - (d + 1)) (up2 c (S 0 - (d + 1)) (rk S (S 0 - (d + 1)) k)) = true then triF S m most d (up2 c (S 0 - (d + 1)) (rk S (S 0 - (d + 1)) k)) Y else Y) = (fun k Y => if fit_ S m' (S 0 - (d + 1)) (up2 c (S 0 - (d + 1)) (rk S (S 0 - (d + 1)) k)) = true then triF S m' most d (up2 c (S 0 - (d + 1)) (rk S (S 0 - (d + 1)) k)) Y else Y) := by
      funext k Y
      rw [fit_m h, triF_m h most d]
    rw [e]
theorem solY_m {S : Nat → Nat} {m m' : Int32} (h : mEq S m m') (most : Nat) : solY S m most = solY S m' most := triF_m h most _ _ _
theorem all_EV0 : ∀ s, s < 31 → ∀ r, r < s → (nI (2 ^ s - 1) >>> (nI r &&& 31)) &&& nI 1 = (EV >>> (nI r &&& 31)) &&& nI 1 := by decide +kernel
theorem all_EV {S : Nat → Nat} (hW : wfB S) : mEq S (nI (2 ^ S 1 - 1)) EV := fun r hr => all_EV0 _ (by have := hW.r; omega) r hr
theorem shr_and (x z k : Int32) : ((x &&& z) >>> k) &&& nI 1 = ((x >>> k) &&& nI 1) &&& (z >>> k) := by
  apply Int32.toBitVec_inj.mp
  simp only [Int32.toBitVec_and, Int32.toBitVec_shiftRight]
  show (x.toBitVec &&& z.toBitVec).sshiftRight (k.toBitVec.smod 32).toNat &&& (nI 1).toBitVec = x.toBitVec.sshiftRight (k.toBitVec.smod 32).toNat &&& (nI 1).toBitVec &&& z.toBitVec.sshiftRight (k.toBitVec.smod 32).toNat
  rw [BitVec.sshiftRight_and_distrib]
  rw [BitVec.and_assoc, BitVec.and_assoc, BitVec.and_comm (z.toBitVec.sshiftRight _) (nI 1).toBitVec]
theorem all_EVa {S : Nat → Nat} (hW : wfB S) (z : Int32) : mEq S (nI (2 ^ S 1 - 1) &&& z) (EV &&& z) := fun r hr => by
  rw [shr_and, shr_and, all_EV hW r hr]
