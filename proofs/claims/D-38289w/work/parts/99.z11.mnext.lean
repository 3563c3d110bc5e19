/-! ===== the reference: nextLamp (it puts a lamp for a while) ===== -/
theorem sp_cnt_add {p q g : Nat → Bool} {n : Nat} (h : ∀ k, k < n → (if p k then 1 else 0) = (if q k then 1 else 0) + (if g k then (1 : Nat) else 0)) : sp_cnt p n = sp_cnt q n + sp_cnt g n := by
  induction n with
  | zero => rfl
  | succ n ih =>
    unfold sp_cnt
    rw [ih (fun k hk => h k (by omega)), h n (by omega)]
    omega
theorem sp_any_cg {p q : Nat → Bool} {n : Nat} (h : ∀ k, k < n → p k = q k) : sp_any p n = sp_any q n := by
  induction n with
  | zero => rfl
  | succ n ih => unfold sp_any; rw [ih (fun k hk => h k (by omega)), h n (by omega)]
def st_more (s : spSg) (c r : Nat) : spSg := st_la s ((sg_la s).1 + 1, sp_up (sg_la s).2 (sg_la s).1 (c, r, true))
theorem sp_bright_more (g : spGr) (la : spLa) (v : Nat × Nat × Bool) (k : Nat) : sp_bright g (la.1 + 1, sp_up la.2 la.1 v) k = (sp_bright g la k || sp_lights g v k) := by
  show (sp_any (fun j => sp_lights g (sp_up la.2 la.1 v j) k) la.1 || sp_lights g (sp_up la.2 la.1 v la.1) k) = _
  rw [sp_up_at, sp_any_cg (q := fun j => sp_lights g (la.2 j) k) (fun j hj => by rw [sp_up_ne _ _ (by omega)])]
  rfl
theorem sp_watched_br {gr : spGr} {la : spLa} {fo : spFo} {gu : spGu} (hf : okFo fo) {c t : Nat} (h : sp_watched gr la fo gu c t = true) : sp_any (fun k => sp_sees gr (gu.2 k) c t true (sp_fog fo t)) gu.1 = true := by
  obtain ⟨k, h1, h2⟩ := sp_any_iff.mp h
  refine sp_any_iff.mpr ⟨k, h1, ?_⟩
  have h3 : sp_near (sp_view gr (gu.2 k) c t) (gu.2 k) t (sp_bright gr la c) (sp_fog fo t) = true := h2
  show sp_near (sp_view gr (gu.2 k) c t) (gu.2 k) t true (sp_fog fo t) = true
  have h5 := sp_near_br (far := sp_view gr (gu.2 k) c t) (g := gu.2 k) (t := t) (sp_fog_le hf t) true
  cases hb : sp_bright gr la c with
  | true => rw [hb] at h3; exact h3
  | false =>
    rw [hb] at h3
    rw [h3] at h5
    exact h5.symm.trans (by simp)
/-- a lamp more: as many cells less without a look as it gains -/
theorem sp_blind_more {s : spSg} (hf : okFo (sg_fo s)) (t c r : Nat) : sp_blind s t = sp_blind (st_more s c r) t + sp_gain s t r c := by
  refine sp_cnt_add (fun k hk => ?_)
  have hb : ∀ x, sp_bright (sg_gr (st_more s c r)) (sg_la (st_more s c r)) x = (sp_bright (sg_gr s) (sg_la s) x || sp_lights (sg_gr s) (c, r, true) x) := fun x => sp_bright_more _ _ _ _
  have hw : sp_watched (sg_gr (st_more s c r)) (sg_la (st_more s c r)) (sg_fo (st_more s c r)) (sg_gu (st_more s c r)) k t = if sp_lights (sg_gr s) (c, r, true) k then sp_any (fun j => sp_sees (sg_gr s) ((sg_gu s).2 j) k t true (sp_fog (sg_fo s) t)) (sg_gu s).1 else sp_watched (sg_gr s) (sg_la s) (sg_fo s) (sg_gu s) k t := by
    unfold sp_watched sp_eye
    rw [hb k]
    cases sp_lights (sg_gr s) (c, r, true) k with
    | true => rw [Bool.or_true, if_pos rfl]; rfl
    | false => rw [Bool.or_false, if_neg (by decide)]; rfl
  have h1 := fun h => sp_watched_br (gr := sg_gr s) (la := sg_la s) (gu := sg_gu s) hf (c := k) (t := t) h
  show (if (!(gr_k (sg_gr s) k == 1) && !sp_watched (sg_gr s) (sg_la s) (sg_fo s) (sg_gu s) k t) = true then 1 else 0) = (if (!(gr_k (sg_gr s) k == 1) && !sp_watched (sg_gr (st_more s c r)) (sg_la (st_more s c r)) (sg_fo (st_more s c r)) (sg_gu (st_more s c r)) k t) = true then 1 else 0) + (if (sp_hope s t k && sp_lights (sg_gr s) (c, r, true) k) = true then 1 else 0)
  rw [hw]
  unfold sp_hope
  revert h1
  generalize sp_any (fun j => sp_sees (sg_gr s) ((sg_gu s).2 j) k t true (sp_fog (sg_fo s) t)) (sg_gu s).1 = z3
  generalize sp_watched (sg_gr s) (sg_la s) (sg_fo s) (sg_gu s) k t = z1
  generalize sp_lights (sg_gr s) (c, r, true) k = z2
  generalize (gr_k (sg_gr s) k == 1) = z0
  revert z0 z1 z2 z3
  decide
theorem sp_blind_sub {s : spSg} (hf : okFo (sg_fo s)) (t c r : Nat) : nI (sp_blind s t) - nI (sp_blind (st_more s c r) t) = nI (sp_gain s t r c) := by
  have h := sp_blind_more hf t c r
  rw [pk_sub (by omega)]
  congr 1
  omega
/-- the last lamp goes -/
theorem trm_laR {d : nwD} {ro am : Nat → Nat} {Hc Hn : Heap} {y : Nat} {s t : spSg} {th : Int32} (h : nwMW d ro am y s th Hc) {ar cap : Nat} {mo : Int32} {f : Nat → Option Nat} (hn : (sg_la t).1 ≤ (sg_la s).1) (hv : ∀ k, k < (sg_la t).1 → (sg_la s).2 k = (sg_la t).2 k) (ht : st_la s (sg_la t) = t) (hz : Hc.size ≤ Hn.size) (hq : ∀ q, q < Hc.size → ¬ (q = am 1 ∨ ro q = 7002 ∨ Hc.size ≤ q) → Hn[q]? = Hc[q]?)
    (hL : nwLm d (am 1) (sg_la t).1 (fun k => am (100 + k)) (fun q => ro q = 7002) mo ar cap f Hn) : nwMW d ro am y t th Hn := by
  obtain ⟨h1, hb, r1, r2⟩ := h.2.2.2.1
  have hX := h.2.1
  have kp : ∀ q, q < Hc.size → ro q ≠ 5002 → ro q ≠ 7002 → Hn[q]? = Hc[q]? := fun q g g1 g2 => hq q g (fun e2 => by
    rcases e2 with e2 | e2 | e2
    · exact g1 (by rw [e2]; exact r1)
    · exact g2 e2
    · omega)
  rw [← ht]
  refine h.upd (fun p => p == 23) (fun q g => ⟨(h.1 q g).1, Nat.lt_of_lt_of_le (h.1 q g).2 hz⟩) (fun _ _ => rfl) (fun _ _ => rfl) (fun q g hS h0 h8 => kp q g (fun e2 => ?_) (fun e2 => ?_)) (hX.1.kept (kp _ hX.1.lt (by rw [hX.2]; decide) (by rw [hX.2]; decide))) ⟨Or.inr rfl, Or.inl rfl, Or.inr rfl, Or.inr rfl, Or.inr rfl, Or.inr rfl, Or.inr rfl, Or.inr rfl, Or.inr rfl⟩ ⟨fun h => absurd h (by decide), fun _ => ?_, fun h => absurd h (by decide), fun h => absurd h (by decide), fun h => absurd h (by decide), fun h => absurd h (by decide), fun h => absurd h (by decide), fun h => absurd h (by decide), fun h => absurd h (by decide)⟩
  · rw [e2] at hS; exact absurd hS (by decide)
  · rw [e2] at hS; exact absurd hS (by decide)
  · refine ⟨⟨hL.to (fun _ _ e => e) (fun _ _ => rfl), fun k hk => ?_⟩, Nat.lt_of_le_of_lt hn hb, r1, fun k hk => r2 k (Nat.lt_of_lt_of_le hk hn)⟩
    have hk2 : k < (sg_la t).1 := hk
    have h4 := h1.2 k (Nat.lt_of_lt_of_le hk2 hn)
    have r4 := r2 k (Nat.lt_of_lt_of_le hk2 hn)
    rw [hv k hk2] at h4
    exact h4.kept (kp _ h4.lt (by omega) (by omega))
theorem st_more_ok {s : spSg} (h : spOk s) {c r : Nat} (hc : c < gr_n (sg_gr s)) (hr : r ≤ 4) : spOkM (st_more s c r) := by
  obtain ⟨okg, okl, okr⟩ := h
  refine ⟨okg, ⟨Nat.succ_le_succ okl.1, fun k hk => ?_⟩, okr⟩
  show (sp_up (sg_la s).2 (sg_la s).1 (c, r, true) k).1 < gr_n (sg_gr s) ∧ (sp_up (sg_la s).2 (sg_la s).1 (c, r, true) k).2.1 ≤ 4
  have hk2 : k < (sg_la s).1 + 1 := hk
  by_cases e : k = (sg_la s).1
  · rw [e, sp_up_at]; exact ⟨hc, hr⟩
  · rw [sp_up_ne _ _ e]; exact okl.2 k (by omega)
theorem trm_laN {d : nwD} {ro am : Nat → Nat} {Hc Hn : Heap} {y : Nat} {s : spSg} {th : Int32} (h : nwMW d ro am y s th Hc) {e ar cap : Nat} {mo : Int32} {f : Nat → Option Nat} {v : Nat × Nat × Bool} (hn : (sg_la s).1 < 49) (he : ro e = 0) (heB : nd_B d ≤ e) (ho : nwI d e 0 3 (fn3 (nI v.1) (nI v.2.1) (b2i v.2.2)) Hc) (hz : Hc.size ≤ Hn.size) (hq : ∀ q, q < Hc.size → ¬ (q = am 1 ∨ ro q = 7002 ∨ Hc.size ≤ q) → Hn[q]? = Hc[q]?)
    (hL : nwLm d (am 1) ((sg_la s).1 + 1) (fun k => if k = (sg_la s).1 then e else am (100 + k)) (fun q => ro q = 7002 ∨ Hc.size ≤ q) mo ar cap f Hn) : ∃ ro' am' : Nat → Nat, nwMW d ro' am' y (st_la s ((sg_la s).1 + 1, sp_up (sg_la s).2 (sg_la s).1 v)) th Hn ∧ (∀ q, ro q ≠ 0 → ro' q = ro q) ∧ ∀ q, q < Hc.size → q ≠ e → ro' q = ro q := by
  obtain ⟨h1, hb, r1, r2⟩ := h.2.2.2.1
  have hX := h.2.1
  generalize hN : (sg_la s).1 = n at *
  have hes := ho.lt
  have hm : nwMo d ro (nwM1 e (5101 + n)) Hc := nwM1.ok he heB hes
  have hk := nwRn.keep (Hn := Hn) (r2 := 7002) h.1 hm
  have a0 : ∀ j, j ≠ 100 + n → sp_up am (100 + n) e j = am j := fun j hj => sp_up_ne _ _ hj
  have kp : ∀ q, q < Hc.size → ro q ≠ 5002 → ro q ≠ 7002 → Hn[q]? = Hc[q]? := fun q g g1 g2 => hq q g (fun e2 => by
    rcases e2 with e2 | e2 | e2
    · exact g1 (by rw [e2]; exact r1)
    · exact g2 e2
    · omega)
  refine ⟨nwRn ro (nwM1 e (5101 + n)) Hc Hn 7002, sp_up am (100 + n) e, h.upd (fun p => p == 23) (nwRn.ok h.1 hm hz (Nat.le_trans heB (Nat.le_of_lt hes))) hk (fun j hj => a0 j (fun e2 => ?_)) (fun q g hS h0 h8 => kp q g (fun e2 => ?_) (fun e2 => ?_)) (mcX.adr (am := am) (hX.1.kept (kp _ hX.1.lt (by rw [hX.2]; decide) (by rw [hX.2]; decide))) (fun j hj => a0 j (by omega))) ⟨Or.inr rfl, Or.inl rfl, Or.inr rfl, Or.inr rfl, Or.inr rfl, Or.inr rfl, Or.inr rfl, Or.inr rfl, Or.inr rfl⟩ ⟨fun h => absurd h (by decide), fun _ => ?_, fun h => absurd h (by decide), fun h => absurd h (by decide), fun h => absurd h (by decide), fun h => absurd h (by decide), fun h => absurd h (by decide), fun h => absurd h (by decide), fun h => absurd h (by decide)⟩, hk, fun q g ne => by unfold nwRn nwM1; rw [if_neg ne, if_pos rfl, if_neg (by omega)]⟩
  · rw [e2, show 100 + n + 5001 = 5101 + n by omega, rp_5101 n (by omega)] at hj; exact absurd hj (by decide)
  · rw [e2] at hS; exact absurd hS (by decide)
  · rw [e2] at hS; exact absurd hS (by decide)
  · refine ⟨⟨?_, fun k hk2 => ?_⟩, by show n + 1 < 50; omega, ?_, fun k hk2 => ?_⟩
    · rw [a0 1 (by omega)]
      exact hL.to (fun q g e2 => nwRn.arr hm g (by decide) e2) (fun k hk2 => by
        by_cases e2 : k = n
        · rw [if_pos e2, e2]; exact sp_up_at _ _ _
        · rw [if_neg e2]; exact a0 _ (by omega))
    · by_cases e2 : k = n
      · subst e2
        rw [show sp_up am (100 + k) e (100 + k) = e from sp_up_at _ _ _, show (st_la s (k + 1, sp_up (sg_la s).2 k v)).2.1.2 k = v from sp_up_at _ _ _]
        exact ho.kept (kp e hes (by rw [he]; decide) (by rw [he]; decide))
      · have hk3 : k < n + 1 := hk2
        rw [a0 _ (show 100 + k ≠ 100 + n by omega), show (st_la s (n + 1, sp_up (sg_la s).2 n v)).2.1.2 k = (sg_la s).2 k from sp_up_ne _ _ e2]
        have h4 := h1.2 k (by omega)
        have r4 := r2 k (by omega)
        exact h4.kept (kp _ h4.lt (by omega) (by omega))
    · rw [a0 1 (by omega)]; exact nw_rt hk r1 (by decide)
    · have hk3 : k < n + 1 := hk2
      by_cases e2 : k = n
      · subst e2
        rw [show sp_up am (100 + k) e (100 + k) = e from sp_up_at _ _ _]; exact nwRn.is (nwM1.at _ _) (by omega)
      · rw [a0 _ (show 100 + k ≠ 100 + n by omega)]; exact nw_rt hk (r2 k (by omega)) (by omega)
theorem nwAM_o {ro ro3 : Nat → Nat} {H Hc : Heap} (hk : ∀ q, q < H.size → ro3 q = ro q) {q : Nat} (hq : q < Hc.size) (h : nwAM ro3 Hc q) : nwAM ro H q := by
  rcases Nat.lt_or_ge q H.size with g | g
  · rcases h with h | h
    · rw [hk q g] at h; exact Or.inl h
    · exact absurd hq (Nat.not_lt.mpr h)
  · exact Or.inr g
theorem kJ3_remove : nwPF "java/util/ArrayList" yJ3_remove cJ3_remove 4 (some (.object "java/lang/Object")) 1 := ⟨⟨q2050, q90, q2052⟩, rfl⟩
theorem fc_List_remove : (⟨"java/util/List", "remove", "(I)Ljava/lang/Object;"⟩ : MethodName).cls ≠ "java/lang/invoke/MethodHandle" ∧ (⟨"java/util/List", "remove", "(I)Ljava/lang/Object;"⟩ : MethodName).cls ≠ "java/lang/invoke/VarHandle" ∧ (parseMethodDescriptor (⟨"java/util/List", "remove", "(I)Ljava/lang/Object;"⟩ : MethodName).desc).map (fun d => d.parameters.length) = some 1 := by decide +kernel
set_option maxHeartbeats 4000000 in
theorem mX4_nextLamp (l : Launch) (hf : l.flags = flags0) (d : nwD) (ro am : Nat → Nat) (y : Nat) (σ : spSg) (th : Int32) (t : Int32) (r : Int32) (b : Bool) (H : Heap) (hB : nd_B d ≤ H.size) (hR : nwMW d ro am y σ th H) (ok : spOk σ) : nwMt l d yX4_nextLamp cX4_nextLamp 9 (some .int) 8 184 130 840 [.ref y, .int t, .int r, .int (b2i b)] H (nwMv d ro y ((op_nextLamp σ t r b).1, (op_nextLamp σ t r b).2, σ) H) nwNo (nwAM ro H) := by
  refine nw_start "NightwatchWallModel" "nextLamp" hf (by decide +kernel) rfl rfl (fun _ h => Or.inr h) (nwAM_B hR hB) (Nat.le_of_ble_eq_true rfl) ?_
  intro X C
  have hB00 := hB
  have hW := hR.wc
  have okM := ok.m
  have hyB := (hR.ok0 (show ro y ≠ 0 by rw [hR.2.1.2]; decide)).1
  have hAy : nwAM ro H y := Or.inl (by rw [hR.2.1.2]; decide +kernel)
  have hW0 := hW
  have hB0 := hB
  have hE := C.E0
  have hext : nwExt H H := nwExt.rfl
  obtain ⟨hmX, hmKi, hmLa, hmFo, hmGu, hmPo, hmIn, hmWi, hmWo, hmKe⟩ := id hW
  obtain ⟨okg, okl, okf, oku, okp, oki, okw, okd, okk, oka⟩ := id ok
  have hn64 : gr_n (sg_gr σ) ≤ 64 := okg.n
  have oku1 := oku.1
  have oki1 := oki.1
  have okp1 := okp.1
  have okw1 := okw.1
  have okl1 := okl.1
  have okf1 := okf.1
  show nwV X _ _ 9 H 0 0 0 [(0, .ref y), (1, .int t), (2, .int r), (3, .int (b2i b))] []
  refine nw_aload_n C 0 dX4_nextLamp_0 rfl 1 rfl ?_
  refine nw_iconst C (nI 0) dX4_nextLamp_1 (by decide) 2 rfl ?_
  refine nw_put C hmX hAy (T := TX4) (ty0 := tyX4) rfl in_X4 tyX4_ok nmX4 0 (by decide) q1622 (Or.inl rfl) rfl rfl rfl (Nat.le_of_ble_eq_true rfl) dX4_nextLamp_2 5 rfl (fun H1 ho2 hz3 hq4 => ?_)
  have ho2 : nwO d y 9 [.int (nI 0), .int (nI (gr_w (sg_gr σ))), .int (nI (gr_h (sg_gr σ))), .ref (am 9), .int (nI (gaM_f (sg_ga σ))), .int (oI (gaM_t (sg_ga σ))), .ref (am 1), .ref (am 2), .ref (am 3), .ref (am 4), .int (nI (wo_s (sg_wo σ))), .int (nI (wo_m (sg_wo σ))), .int (nI (sp_after (wo_x (sg_wo σ)))), .ref (am 11), .ref (am 12), .int (nI (sg_ri σ)), .ref (am 8), .ref (am 5), .ref (am 6), .int (nI (sg_rf σ))] H1 := ho2
  replace hR := hR.th hz3 hq4 ho2
  have hzb : H1.size = H.size := hz3
  replace hB0 : nd_B d ≤ H1.size := by rw [hz3]; exact hB0
  replace hB := hB0
  replace hE := hE.kept (fun q9 _ hb9 => hq4 q9 (fun e9 => hb9 (by rw [e9]; exact hyB)))
  have hE0 := hE
  replace hW0 := hR.wc
  replace hW := hW0
  replace hext : nwExt H1 H1 := nwExt.rfl
  clear hmX hmKi hmLa hmFo hmGu hmPo hmIn hmWi hmWo hmKe
  obtain ⟨hmX, hmKi, hmLa, hmFo, hmGu, hmPo, hmIn, hmWi, hmWo, hmKe⟩ := id hW
  refine nw_iload_n C 1 dX4_nextLamp_5 rfl 6 rfl ?_
  refine nw_callS C (mX4_isMinute _ C.hfl d t H1 hB) kX4_isMinute q1722 (As := [.int t]) (rest := []) rfl rfl ⟨⟨Nat.le_of_ble_eq_true rfl, Nat.le_of_ble_eq_true rfl⟩, Nat.le_of_ble_eq_true rfl, Nat.le_of_ble_eq_true rfl⟩ (Nat.le_of_ble_eq_true rfl) (fun _ h8 h9 => absurd h9 (Nat.not_le.mpr h8)) dX4_nextLamp_6 9 rfl (nw_rdK ?_) nw_noX
  refine nw_ifeqB C 21 dX4_nextLamp_9 (by decide) 12 rfl (fun h5 => ?_) (fun h5 => ?_)
  · refine nw_aload_n C 0 dX4_nextLamp_21 rfl 22 rfl ?_
    refine nw_iconst C (nI 1) dX4_nextLamp_22 (by decide) 23 rfl ?_
    refine nw_callV C (mX4_no _ C.hfl d y (.int (nI 0)) (.int (nI (gr_w (sg_gr σ)))) (.int (nI (gr_h (sg_gr σ)))) (.ref (am 9)) (.int (nI (gaM_f (sg_ga σ)))) (.int (oI (gaM_t (sg_ga σ)))) (.ref (am 1)) (.ref (am 2)) (.ref (am 3)) (.ref (am 4)) (.int (nI (wo_s (sg_wo σ)))) (.int (nI (wo_m (sg_wo σ)))) (.int (nI (sp_after (wo_x (sg_wo σ))))) (.ref (am 11)) (.ref (am 12)) (.int (nI (sg_ri σ))) (.ref (am 8)) (.ref (am 5)) (.ref (am 6)) (.int (nI (sg_rf σ))) (nI 1) H1 hB hyB hmX) kX4_no q1694 (hmX.is C (ci := 9) rfl) (As := [.int (nI 1)]) (rest := []) rfl rfl ⟨⟨Nat.le_of_ble_eq_true rfl, Nat.le_of_ble_eq_true rfl⟩, (show 0 + 0 ≤ 130 by omega), (show 0 + 0 ≤ 840 by omega)⟩ (Nat.le_of_ble_eq_true rfl) (fun q8 h8 h9 => h9.elim (fun e9 => by rw [e9]; exact hAy) (fun e9 => absurd h8 (Nat.not_lt.mpr e9))) dX4_nextLamp_23 26 rfl (fun v9 H6 hR7 hz8 hq9 => ?_) nw_noX
    obtain ⟨rfl, ho10⟩ := hR7
    have hR8 := hR.ext hext
    have hR9 : nwMW d ro am y σ (nI 1) H6 := hR8.obj hz8 (fun q9 g9 n9 _ => hq9 q9 g9 (fun e9 => e9.elim n9 (Nat.not_le.mpr g9))) mSame.rfl ho10
    have hle9 : H.size ≤ H6.size := Nat.le_trans (Nat.le_of_eq hzb.symm) (Nat.le_trans hext.1 hz8)
    show nwV X _ _ 9 H6 (0 + 0) (0 + 0) 26 [(0, .ref y), (1, .int t), (2, .int r), (3, .int (b2i b))] [.int (nI 0)]
    refine nw_wide (k' := 0) (n' := 0) (by omega) (by omega) ?_
    have hop : op_nextLamp σ t r b = (1, 0) := by simp [op_nextLamp, h5]
    exact nw_iret C dX4_nextLamp_26 (by omega) (by omega) (by rw [hop]; exact ⟨rfl, ok, hle9, ro, am, hR9, fun _ _ => rfl⟩)
  · obtain ⟨tn, hk11, rfl⟩ := nw_rg_nat (by omega) (by omega) h5
    have en_tn : nw_nn (nI tn) = tn := nw_nn_nI (by omega)
    refine nw_iload_n C 2 dX4_nextLamp_12 rfl 13 rfl ?_
    refine nw_iconst C (nI 1) dX4_nextLamp_13 (by decide) 14 rfl ?_
    refine nw_iconst C (nI 4) dX4_nextLamp_14 (by decide) 15 rfl ?_
    refine nw_callS C (mX4_inR _ C.hfl d r (nI 1) (nI 4) H1 hB) kX4_in q1691 (As := [.int r, .int (nI 1), .int (nI 4)]) (rest := []) rfl rfl ⟨⟨Nat.le_of_ble_eq_true rfl, Nat.le_of_ble_eq_true rfl⟩, Nat.le_of_ble_eq_true rfl, Nat.le_of_ble_eq_true rfl⟩ (Nat.le_of_ble_eq_true rfl) (fun _ h8 h9 => absurd h9 (Nat.not_le.mpr h8)) dX4_nextLamp_15 18 rfl (nw_rdK ?_) nw_noX
    show nwV X _ _ 9 H1 0 0 18 [(0, .ref y), (1, .int (nI tn)), (2, .int r), (3, .int (b2i b))] [.int (b2i (nw_rg 1 4 r))]
    refine nw_ifneB C 27 dX4_nextLamp_18 (by decide) 21 rfl (fun h12 => ?_) (fun h12 => ?_)
    · obtain ⟨rn, hk13, rfl⟩ := nw_rg_nat (by omega) (by omega) h12
      have en_rn : nw_nn (nI rn) = rn := nw_nn_nI (by omega)
      refine nw_aload_n C 0 dX4_nextLamp_27 rfl 28 rfl ?_
      refine nw_iload_n C 1 dX4_nextLamp_28 rfl 29 rfl ?_
      refine nw_iconst C (nI 1) dX4_nextLamp_29 (by decide) 30 rfl ?_
      refine nw_callV C (mX4_minuteNow _ C.hfl d ro am y σ (nI 0) tn 1 H1 hB hW okM (by omega) (by omega)) kX4_minuteNow q1880 (hmX.is C (ci := 9) rfl) (As := [.int (nI tn), .int (nI 1)]) (rest := []) rfl rfl ⟨⟨Nat.le_of_ble_eq_true rfl, Nat.le_of_ble_eq_true rfl⟩, Nat.le_of_ble_eq_true rfl, Nat.le_of_ble_eq_true rfl⟩ (Nat.le_of_ble_eq_true rfl) (fun _ h8 h9 => absurd h9 (Nat.not_le.mpr h8)) dX4_nextLamp_30 33 rfl (nw_rdK ?_) nw_noX
      show nwV X _ _ 9 H1 0 0 33 [(0, .ref y), (1, .int (nI tn)), (2, .int (nI rn)), (3, .int (b2i b))] [.int (nI (sp_blind σ tn))]
      refine nw_istore C [(4, .int (nI (sp_blind σ tn))), (0, .ref y), (1, .int (nI tn)), (2, .int (nI rn)), (3, .int (b2i b))] dX4_nextLamp_33 (by decide) rfl 35 rfl ?_
      refine nw_iconst C (oI none) dX4_nextLamp_35 (by decide) 36 rfl ?_
      refine nw_istore C [(5, .int (oI none)), (4, .int (nI (sp_blind σ tn))), (0, .ref y), (1, .int (nI tn)), (2, .int (nI rn)), (3, .int (b2i b))] dX4_nextLamp_36 (by decide) rfl 38 rfl ?_
      refine nw_iconst C (oI none) dX4_nextLamp_38 (by decide) 39 rfl ?_
      refine nw_istore C [(6, .int (oI none)), (5, .int (oI none)), (4, .int (nI (sp_blind σ tn))), (0, .ref y), (1, .int (nI tn)), (2, .int (nI rn)), (3, .int (b2i b))] dX4_nextLamp_39 (by decide) rfl 41 rfl ?_
      refine nw_iconst C (nI 0) dX4_nextLamp_41 (by decide) 42 rfl ?_
      refine nw_istore C [(7, .int (nI 0)), (6, .int (oI none)), (5, .int (oI none)), (4, .int (nI (sp_blind σ tn))), (0, .ref y), (1, .int (nI tn)), (2, .int (nI rn)), (3, .int (b2i b))] dX4_nextLamp_42 (by decide) rfl 44 rfl ?_
      have lp14 : ∀ (fu : Nat) (H2 : Heap) (ro3 : Nat → Nat) (am3 : Nat → Nat) (i : Nat) (o1 : Option Nat) (o2 : Option Nat), (H.size ≤ H2.size) → (nwE d (nx_s X) H2) → (∀ q, ro q ≠ 0 → ro3 q = ro q) → (∀ q, q < H.size → ro3 q = ro q) → (nwMW d ro3 am3 y σ (nI 0) H2) → (i ≤ gr_n (sg_gr σ)) → (o1 = (sp_lamps σ tn rn i).1) → (o2 = (sp_lamps σ tn rn i).2) → (∀ v, o2 = some v → v ≤ gr_n (sg_gr σ)) → gr_n (sg_gr σ) - i < fu → nwV X (nwAM ro H) (nwQE X (nwMv d ro y ((op_nextLamp σ (nI tn) (nI rn) b).1, (op_nextLamp σ (nI tn) (nI rn) b).2, σ) H) nwNo (nwAM ro H) 130 840) 9 H2 (2 * i) (13 * i) 44 [(0, .ref y), (1, .int (nI tn)), (2, .int (nI rn)), (3, .int (b2i b)), (4, .int (nI (sp_blind σ tn))), (5, .int (oI o1)), (6, .int (oI o2)), (7, .int (nI i))] [] := by
        intro fu
        induction fu with
        | zero => intro H2 ro3 am3 i o1 o2 _ _ _ _ _ _ _ _ _ hm; exact absurd hm (Nat.not_lt_zero _)
        | succ fu ih_lp14 =>
          intro H2 ro3 am3 i o1 o2 hsz hE2 hk3 hk5 hR2 hi ho1 ho2 hob2 hm
          replace hE := hE2
          replace hR := hR2
          replace hB := Nat.le_trans hB00 hsz
          replace hW := hR.wc
          clear hmX hmKi hmLa hmFo hmGu hmPo hmIn hmWi hmWo hmKe okg okl okf oku okp oki okw okd okk oka hn64 oku1 oki1 okp1 okw1 okl1 okf1
          obtain ⟨hmX, hmKi, hmLa, hmFo, hmGu, hmPo, hmIn, hmWi, hmWo, hmKe⟩ := id hW
          obtain ⟨okg, okl, okf, oku, okp, oki, okw, okd, okk, oka⟩ := id okM
          have hn64 : gr_n (sg_gr σ) ≤ 64 := okg.n
          have oku1 := oku.1
          have oki1 := oki.1
          have okp1 := okp.1
          have okw1 := okw.1
          have okl1 := okl.1
          have okf1 := okf.1
          refine nw_iload C 7 dX4_nextLamp_44 rfl 46 rfl ?_
          refine nw_aload_n C 0 dX4_nextLamp_46 rfl 47 rfl ?_
          refine nw_get C hmX (T := TX4) rfl in_X4 3 (by decide) q1625 (Or.inl rfl) rfl dX4_nextLamp_47 50 rfl ?_
          refine nw_alenI C hmKi (by decide) dX4_nextLamp_50 51 rfl ?_
          refine nw_icmpgeN C (by omega) 150 dX4_nextLamp_51 (by decide) 54 rfl (fun h15 => ?_) (fun h15 => ?_)
          · refine nw_iload_n C 3 dX4_nextLamp_150 rfl 151 rfl ?_
            refine nw_ifeqB C 159 dX4_nextLamp_151 (by decide) 154 rfl (fun h16 => ?_) (fun h16 => ?_)
            · refine nw_iload C 6 dX4_nextLamp_159 rfl 161 rfl ?_
              have hz1 : o1 = (sp_lamps σ tn rn (gr_n (sg_gr σ))).1 := by rw [ho1, show i = gr_n (sg_gr σ) by omega]
              have hz2 : o2 = (sp_lamps σ tn rn (gr_n (sg_gr σ))).2 := by rw [ho2, show i = gr_n (sg_gr σ) by omega]
              have hop : op_nextLamp σ (nI tn) (nI rn) b = (0, oI o2) := by simp [op_nextLamp, hz1, hz2, h5, h12, h15, h16, en_tn, en_rn]
              exact nw_iret C dX4_nextLamp_161 (by omega) (by omega) (by rw [hop]; exact ⟨rfl, ok, hsz, ro3, am3, hR, hk3⟩)
            · refine nw_iload C 5 dX4_nextLamp_154 rfl 156 rfl ?_
              refine nw_goto C 161 dX4_nextLamp_156 (by decide) ?_
              have hz1 : o1 = (sp_lamps σ tn rn (gr_n (sg_gr σ))).1 := by rw [ho1, show i = gr_n (sg_gr σ) by omega]
              have hz2 : o2 = (sp_lamps σ tn rn (gr_n (sg_gr σ))).2 := by rw [ho2, show i = gr_n (sg_gr σ) by omega]
              have hop : op_nextLamp σ (nI tn) (nI rn) b = (0, oI o1) := by simp [op_nextLamp, hz1, hz2, h5, h12, h15, h16, en_tn, en_rn]
              exact nw_iret C dX4_nextLamp_161 (by omega) (by omega) (by rw [hop]; exact ⟨rfl, ok, hsz, ro3, am3, hR, hk3⟩)
          · refine nw_aload_n C 0 dX4_nextLamp_54 rfl 55 rfl ?_
            refine nw_get C hmX (T := TX4) rfl in_X4 3 (by decide) q1625 (Or.inl rfl) rfl dX4_nextLamp_55 58 rfl ?_
            refine nw_iload C 7 dX4_nextLamp_58 rfl 60 rfl ?_
            refine nw_ialdN C (nI (gr_k (sg_gr σ) i)) hmKi (by omega) rfl dX4_nextLamp_60 61 rfl ?_
            have hk4 : gr_k (sg_gr σ) i < 4 := (okg.here (show i < gr_n (sg_gr σ) by omega)).2 i (by omega)
            have hi64 : i < 64 := by omega
            have hin : i < gr_n (sg_gr σ) := by omega
            refine nw_iconst C (nI 1) dX4_nextLamp_61 (by decide) 62 rfl ?_
            refine nw_icmpneN C (by omega) 68 dX4_nextLamp_62 (by decide) 65 rfl (fun h17 => ?_) (fun h17 => ?_)
            · have hnw : ¬ gr_k (sg_gr σ) i = 1 := by assumption
              refine nw_aload_n C 0 dX4_nextLamp_68 rfl 69 rfl ?_
              refine nw_get C hmX (T := TX4) rfl in_X4 6 (by decide) q1628 (Or.inl rfl) rfl dX4_nextLamp_69 72 rfl ?_
              refine nw_iconst C (nI 3) dX4_nextLamp_72 (by decide) 73 rfl ?_
              refine nw_newi C (by omega) (2 * i + 1) (13 * i + 3) (by omega) (by omega) ⟨(show (2 * i + 1) ≤ 130 by omega), (show (13 * i + 3) ≤ 840 by omega)⟩ dX4_nextLamp_73 75 rfl (fun a18 H19 hx20 ho21 hz22 hq23 => ?_)
              have hn24 : H.size ≤ a18 := by rw [hx20]; exact hsz
              have hr025 : ro3 a18 = 0 := nwMW.new0 hR (by rw [hx20]; exact Nat.le_refl _)
              replace hR := hR.kp (show H2.size ≤ H19.size by omega) (fun q9 g9 _ => hq23 q9 g9)
              replace hsz := Nat.le_trans hsz (show H2.size ≤ H19.size by omega)
              replace hE := hE.ext hq23
              replace hB := Nat.le_trans hB00 hsz
              refine nw_dup C dX4_nextLamp_75 rfl 76 rfl ?_
              refine nw_iconst C (nI 0) dX4_nextLamp_76 (by decide) 77 rfl ?_
              refine nw_iload C 7 dX4_nextLamp_77 rfl 79 rfl ?_
              refine nw_iastN C ho21 (Or.inr hn24) (by omega) dX4_nextLamp_79 80 rfl (fun H26 ho27 hz28 hq29 => ?_)
              replace hR := hR.kp (Nat.le_of_eq hz28.symm) (fun q9 _ e8 => hq29 q9 (fun e9 => e8 (by rw [e9]; exact hr025)))
              replace hsz := Nat.le_trans hsz (Nat.le_of_eq hz28.symm)
              replace hE := hE.kept (fun q9 _ hb9 => hq29 q9 (fun e9 => hb9 (by rw [e9]; exact Nat.le_trans hB00 hn24)))
              replace hB := Nat.le_trans hB00 hsz
              refine nw_dup C dX4_nextLamp_80 rfl 81 rfl ?_
              refine nw_iconst C (nI 1) dX4_nextLamp_81 (by decide) 82 rfl ?_
              refine nw_iload_n C 2 dX4_nextLamp_82 rfl 83 rfl ?_
              refine nw_iastN C ho27 (Or.inr hn24) (by omega) dX4_nextLamp_83 84 rfl (fun H30 ho31 hz32 hq33 => ?_)
              replace hR := hR.kp (Nat.le_of_eq hz32.symm) (fun q9 _ e8 => hq33 q9 (fun e9 => e8 (by rw [e9]; exact hr025)))
              replace hsz := Nat.le_trans hsz (Nat.le_of_eq hz32.symm)
              replace hE := hE.kept (fun q9 _ hb9 => hq33 q9 (fun e9 => hb9 (by rw [e9]; exact Nat.le_trans hB00 hn24)))
              replace hB := Nat.le_trans hB00 hsz
              refine nw_dup C dX4_nextLamp_84 rfl 85 rfl ?_
              refine nw_iconst C (nI 2) dX4_nextLamp_85 (by decide) 86 rfl ?_
              refine nw_iconst C (nI 1) dX4_nextLamp_86 (by decide) 87 rfl ?_
              refine nw_iastN C ho31 (Or.inr hn24) (by omega) dX4_nextLamp_87 88 rfl (fun H34 ho35 hz36 hq37 => ?_)
              replace hR := hR.kp (Nat.le_of_eq hz36.symm) (fun q9 _ e8 => hq37 q9 (fun e9 => e8 (by rw [e9]; exact hr025)))
              replace hsz := Nat.le_trans hsz (Nat.le_of_eq hz36.symm)
              replace hE := hE.kept (fun q9 _ hb9 => hq37 q9 (fun e9 => hb9 (by rw [e9]; exact Nat.le_trans hB00 hn24)))
              replace hB := Nat.le_trans hB00 hsz
              replace hW := hR.wc
              clear hmX hmKi hmLa hmFo hmGu hmPo hmIn hmWi hmWo hmKe okg okl okf oku okp oki okw okd okk oka hn64 oku1 oki1 okp1 okw1 okl1 okf1
              obtain ⟨hmX, hmKi, hmLa, hmFo, hmGu, hmPo, hmIn, hmWi, hmWo, hmKe⟩ := id hW
              obtain ⟨okg, okl, okf, oku, okp, oki, okw, okd, okk, oka⟩ := id okM
              have hn64 : gr_n (sg_gr σ) ≤ 64 := okg.n
              have oku1 := oku.1
              have oki1 := oki.1
              have okp1 := okp.1
              have okw1 := okw.1
              have okl1 := okl.1
              have okf1 := okf.1
              obtain ⟨mo9, ar9, cap9, f9, hL9⟩ := nwLi_m hmLa.1
              have hr9 : ro3 (am3 1) = 5002 := hR.2.2.2.1.2.2.1
              have hai9 := hR.ok0 (show ro3 (am3 1) ≠ 0 by rw [hr9]; decide)
              have hAq : ∀ q8, q8 < H34.size → (q8 = am3 1 ∨ ro3 q8 = 7002 ∨ H34.size ≤ q8) → nwAM ro H q8 := by
                intro q8 h8 h9
                refine nwAM_o (Hc := H34) hk5 h8 ?_
                rcases h9 with e9 | e9 | e9
                · exact Or.inl (by rw [e9, hr9]; decide +kernel)
                · exact Or.inl (by rw [e9]; decide +kernel)
                · exact Or.inr e9
              refine nw_callF C (mJ3_add _ C.hfl d (am3 1) (sg_la σ).1 (fun k => am3 (100 + k)) (fun q => ro3 q = 7002) mo9 ar9 cap9 f9 a18 "[I" H34 hB hai9.1 hL9 (fun q9 e9 => (hR.ok0 (show ro3 q9 ≠ 0 by rw [show ro3 q9 = 7002 from e9]; decide)).1) (show ¬ ro3 (am3 1) = 7002 by rw [hr9]; decide) (Or.inr (Or.inr ⟨_, _, ho35, rfl⟩)) q2155 (fun e9 => by have p9 := hr9; rw [← e9, hr025] at p9; omega) ho35.lt (by omega)) kJ3_add (ci := 13) rfl q1730 q1733 (by decide +kernel) fc_List_add (nwLi.is hmLa.1 C) (As := [.ref a18]) (rest := []) rfl rfl ⟨⟨Nat.le_of_ble_eq_true rfl, Nat.le_of_ble_eq_true rfl⟩, (show (2 * i + 1) + 1 ≤ 130 by omega), (show (13 * i + 3) + 10 ≤ 840 by omega)⟩ (Nat.le_of_ble_eq_true rfl) hAq dX4_nextLamp_88 93 rfl (fun v9 H38 hR39 hz40 hq41 => ?_) nw_noX
              obtain ⟨rfl, mo8, ar8, cap8, f8, hL8⟩ := hR39
              obtain ⟨ro4, am4, hR4, hk4, hol4⟩ := trm_laN hR (v := (i, rn, true)) (by omega) hr025 (Nat.le_trans hB00 hn24) (nwI.congr ho35 (fun j hj => by rcases (show j = 0 ∨ j = 1 ∨ j = 2 by omega) with e9 | e9 | e9 <;> subst e9 <;> rfl)) hz40 hq41 hL8
              replace hk3 : ∀ q, ro q ≠ 0 → ro4 q = ro q := fun q e9 => (hk4 q (by rw [hk3 q e9]; exact e9)).trans (hk3 q e9)
              replace hk5 : ∀ q, q < H.size → ro4 q = ro q := fun q g9 => (hol4 q (Nat.lt_of_lt_of_le g9 hsz) (Nat.ne_of_lt (Nat.lt_of_lt_of_le g9 hn24))).trans (hk5 q g9)
              obtain ⟨σ1, hσ1⟩ : ∃ t9 : spSg, t9 = st_more σ i rn := ⟨_, rfl⟩
              replace hR4 : nwMW d ro4 am4 y σ1 (nI 0) H38 := by rw [hσ1]; exact hR4
              replace okM : spOkM σ1 := by rw [hσ1]; exact st_more_ok ok (by omega) (by omega)
              have hla1 : (sg_la σ1).1 = (sg_la σ).1 + 1 := by rw [hσ1]; rfl
              replace hE := hE.kept (fun q9 g9 hb9 => hq41 q9 g9 (fun h9 => hb9 (C.hB q9 (hAq q9 g9 h9))))
              replace hsz : H.size ≤ H38.size := Nat.le_trans hsz hz40
              replace hB := Nat.le_trans hB00 hsz
              replace hR := hR4
              replace hW := hR.wc
              clear hmX hmKi hmLa hmFo hmGu hmPo hmIn hmWi hmWo hmKe okg okl okf oku okp oki okw okd okk oka hn64 oku1 oki1 okp1 okw1 okl1 okf1
              obtain ⟨hmX, hmKi, hmLa, hmFo, hmGu, hmPo, hmIn, hmWi, hmWo, hmKe⟩ := id hW
              obtain ⟨okg, okl, okf, oku, okp, oki, okw, okd, okk, oka⟩ := id okM
              have hn64 : gr_n (sg_gr σ1) ≤ 64 := okg.n
              have oku1 := oku.1
              have oki1 := oki.1
              have okp1 := okp.1
              have okw1 := okw.1
              have okl1 := okl.1
              have okf1 := okf.1
              show nwV X _ _ 9 H38 ((2 * i + 1) + 1) ((13 * i + 3) + 10) 93 [(0, .ref y), (1, .int (nI tn)), (2, .int (nI rn)), (3, .int (b2i b)), (4, .int (nI (sp_blind σ tn))), (5, .int (oI o1)), (6, .int (oI o2)), (7, .int (nI i))] [.int (b2i true)]
              refine nw_wide (k' := 2 * i + 2) (n' := 13 * i + 13) (by omega) (by omega) ?_
              refine nw_pop C dX4_nextLamp_93 rfl 94 rfl ?_
              refine nw_iload C 4 dX4_nextLamp_94 rfl 96 rfl ?_
              refine nw_aload_n C 0 dX4_nextLamp_96 rfl 97 rfl ?_
              refine nw_iload_n C 1 dX4_nextLamp_97 rfl 98 rfl ?_
              refine nw_iconst C (nI 1) dX4_nextLamp_98 (by decide) 99 rfl ?_
              refine nw_callV C (mX4_minuteNow _ C.hfl d ro4 am4 y σ1 (nI 0) tn 1 H38 hB hW okM (by omega) (by omega)) kX4_minuteNow q1880 (hmX.is C (ci := 9) rfl) (As := [.int (nI tn), .int (nI 1)]) (rest := [.int (nI (sp_blind σ tn))]) rfl rfl ⟨⟨Nat.le_of_ble_eq_true rfl, Nat.le_of_ble_eq_true rfl⟩, (show (2 * i + 2) + 0 ≤ 130 by omega), (show (13 * i + 13) + 0 ≤ 840 by omega)⟩ (Nat.le_of_ble_eq_true rfl) (fun _ h8 h9 => absurd h9 (Nat.not_le.mpr h8)) dX4_nextLamp_99 102 rfl (nw_rdK ?_) nw_noX
              refine nw_isub C (nI (sp_gain σ tn rn i)) dX4_nextLamp_102 (by rw [hσ1]; exact sp_blind_sub ok.2.2.1 tn i rn) 103 rfl ?_
              refine nw_istore C [(8, .int (nI (sp_gain σ tn rn i))), (0, .ref y), (1, .int (nI tn)), (2, .int (nI rn)), (3, .int (b2i b)), (4, .int (nI (sp_blind σ tn))), (5, .int (oI o1)), (6, .int (oI o2)), (7, .int (nI i))] dX4_nextLamp_103 (by decide) rfl 105 rfl ?_
              refine nw_aload_n C 1 dX4_nextLamp_105 rfl 106 rfl ?_
              refine nw_get C hmX (T := TX4) rfl in_X4 6 (by decide) q1628 (Or.inl rfl) rfl dX4_nextLamp_106 109 rfl ?_
              refine nw_aload_n C 1 dX4_nextLamp_109 rfl 110 rfl ?_
              refine nw_get C hmX (T := TX4) rfl in_X4 6 (by decide) q1628 (Or.inl rfl) rfl dX4_nextLamp_110 113 rfl ?_
              refine nw_callF C (mJ3_size _ C.hfl d (am4 1) ((sg_la σ1).1) (fun k => am4 (100 + k)) (fun q => ro4 q = 7002) H38 hB hmLa.1) kJ3_size (ci := 13) rfl q1607 q1611 (by decide +kernel) fc_List_size (hmLa.1.is C) (As := []) (rest := [.ref (am4 1)]) rfl rfl ⟨⟨Nat.le_of_ble_eq_true rfl, Nat.le_of_ble_eq_true rfl⟩, (show (2 * i + 2) + 0 ≤ 130 by omega), (show (13 * i + 13) + 0 ≤ 840 by omega)⟩ (Nat.le_of_ble_eq_true rfl) (fun _ h8 h9 => absurd h9 (Nat.not_le.mpr h8)) dX4_nextLamp_113 118 rfl (nw_rdK ?_) nw_noX
              refine nw_iconst C (nI 1) dX4_nextLamp_118 (by decide) 119 rfl ?_
              refine nw_isub C (nI ((sg_la σ).1)) dX4_nextLamp_119 (by rw [hla1]; exact pk_sub (Nat.le_add_left 1 _)) 120 rfl ?_
              have hm9 : nwLi d (am4 1) (sg_la σ1).1 (fun k => am4 (100 + k)) (fun q => ro4 q = 7002) H38 := hmLa.1
              rw [hla1] at hm9
              obtain ⟨mo9, ar9, cap9, f9, hL9⟩ := nwLi_m hm9
              have hr9 : ro4 (am4 1) = 5002 := hR.2.2.2.1.2.2.1
              have hai9 := hR.ok0 (show ro4 (am4 1) ≠ 0 by rw [hr9]; decide)
              have hAq : ∀ q8, q8 < H38.size → (q8 = am4 1 ∨ ro4 q8 = 7002 ∨ H38.size ≤ q8) → nwAM ro H q8 := by
                intro q8 h8 h9
                refine nwAM_o (Hc := H38) hk5 h8 ?_
                rcases h9 with e9 | e9 | e9
                · exact Or.inl (by rw [e9, hr9]; decide +kernel)
                · exact Or.inl (by rw [e9]; decide +kernel)
                · exact Or.inr e9
              refine nw_callG C (mJ3_remove _ C.hfl d (am4 1) (sg_la σ).1 (fun k => am4 (100 + k)) (fun q => ro4 q = 7002) mo9 ar9 cap9 f9 H38 hB hai9.1 hL9 (fun q9 e9 => (hR.ok0 (show ro4 q9 ≠ 0 by rw [show ro4 q9 = 7002 from e9]; decide)).1) (show ¬ ro4 (am4 1) = 7002 by rw [hr9]; decide)) kJ3_remove (ci := 13) rfl q2045 q2048 (by decide +kernel) fc_List_remove (nwLi.is hmLa.1 C) (As := [.int (nI ((sg_la σ).1))]) (rest := []) rfl rfl ⟨⟨Nat.le_of_ble_eq_true rfl, Nat.le_of_ble_eq_true rfl⟩, (show (2 * i + 2) + 0 ≤ 130 by omega), (show (13 * i + 13) + 0 ≤ 840 by omega)⟩ (Nat.le_of_ble_eq_true rfl) hAq dX4_nextLamp_120 125 rfl (fun v9 H42 hR43 hz44 hq45 => ?_) nw_noX
              obtain ⟨rfl, mo8, ar8, cap8, f8, hL8⟩ := hR43
              replace hR : nwMW d ro4 am4 y σ (nI 0) H42 := trm_laR hR (t := σ) (by omega) (fun k hk => by rw [hσ1]; exact sp_up_ne _ _ (Nat.ne_of_lt hk)) (by rw [hσ1]; rfl) hz44 hq45 hL8
              replace hE := hE.kept (fun q9 g9 hb9 => hq45 q9 g9 (fun h9 => hb9 (C.hB q9 (hAq q9 g9 h9))))
              replace hsz : H.size ≤ H42.size := Nat.le_trans hsz hz44
              replace hB := Nat.le_trans hB00 hsz
              replace okM := ok.m
              replace hW := hR.wc
              clear hmX hmKi hmLa hmFo hmGu hmPo hmIn hmWi hmWo hmKe okg okl okf oku okp oki okw okd okk oka hn64 oku1 oki1 okp1 okw1 okl1 okf1
              obtain ⟨hmX, hmKi, hmLa, hmFo, hmGu, hmPo, hmIn, hmWi, hmWo, hmKe⟩ := id hW
              obtain ⟨okg, okl, okf, oku, okp, oki, okw, okd, okk, oka⟩ := id okM
              have hn64 : gr_n (sg_gr σ) ≤ 64 := okg.n
              have oku1 := oku.1
              have oki1 := oki.1
              have okp1 := okp.1
              have okw1 := okw.1
              have okl1 := okl.1
              have okf1 := okf.1
              show nwV X _ _ 9 H42 ((2 * i + 2) + 0) ((13 * i + 13) + 0) 125 [(8, .int (nI (sp_gain σ tn rn i))), (0, .ref y), (1, .int (nI tn)), (2, .int (nI rn)), (3, .int (b2i b)), (4, .int (nI (sp_blind σ tn))), (5, .int (oI o1)), (6, .int (oI o2)), (7, .int (nI i))] [.ref (am4 (100 + (sg_la σ).1))]
              refine nw_wide (k' := 2 * i + 2) (n' := 13 * i + 13) (by omega) (by omega) ?_
              refine nw_pop C dX4_nextLamp_125 rfl 126 rfl ?_
              have hgn := sp_gain_le σ tn rn i
              refine nw_iload C 0 dX4_nextLamp_126 rfl 128 rfl ?_
              rcases o2 with _ | bb
              · show nwV X _ _ 9 H42 (2 * i + 2) (13 * i + 13) 128 [(8, .int (nI (sp_gain σ tn rn i))), (0, .ref y), (1, .int (nI tn)), (2, .int (nI rn)), (3, .int (b2i b)), (4, .int (nI (sp_blind σ tn))), (5, .int (oI o1)), (6, .int (oI none)), (7, .int (nI i))] [.int (nI (sp_gain σ tn rn i))]
                refine nw_iload C 7 dX4_nextLamp_128 rfl 130 rfl ?_
                refine nw_icmpgt C 136 dX4_nextLamp_130 (by decide) 133 rfl (fun _ => ?_) (fun h46 => absurd (Int32.not_le.mp (nw_m1le (by omega))) h46)
                refine nw_iload C 0 dX4_nextLamp_136 rfl 138 rfl ?_
                refine nw_istore C [(6, .int (nI (sp_gain σ tn rn i))), (8, .int (nI (sp_gain σ tn rn i))), (0, .ref y), (1, .int (nI tn)), (2, .int (nI rn)), (3, .int (b2i b)), (4, .int (nI (sp_blind σ tn))), (5, .int (oI o1)), (7, .int (nI i))] dX4_nextLamp_138 (by decide) rfl 140 rfl ?_
                refine nw_iload C 8 dX4_nextLamp_140 rfl 142 rfl ?_
                refine nw_istore C [(5, .int (nI i)), (6, .int (nI (sp_gain σ tn rn i))), (8, .int (nI (sp_gain σ tn rn i))), (0, .ref y), (1, .int (nI tn)), (2, .int (nI rn)), (3, .int (b2i b)), (4, .int (nI (sp_blind σ tn))), (7, .int (nI i))] dX4_nextLamp_142 (by decide) rfl 144 rfl ?_
                refine nw_iincN C 8 (c0 := 1) [(7, .int (nI (i + 1))), (5, .int (nI i)), (6, .int (nI (sp_gain σ tn rn i))), (8, .int (nI (sp_gain σ tn rn i))), (0, .ref y), (1, .int (nI tn)), (2, .int (nI rn)), (3, .int (b2i b)), (4, .int (nI (sp_blind σ tn)))] dX4_nextLamp_144 rfl (by decide) rfl 147 rfl ?_
                refine nw_goto C 44 dX4_nextLamp_147 (by decide) ?_
                exact nw_wide (by omega) (by omega) (nw_sub [4, 5, 6, 7, 8, 1, 2, 0] rfl (ih_lp14 H42 ro4 am4 (i + 1) (some i) (some (sp_gain σ tn rn i)) hsz hE hk3 hk5 hR (by omega) (by rw [sp_lamps_a hnw ho2.symm]) (by rw [sp_lamps_a hnw ho2.symm]) (fun v hv => by cases hv; exact hgn) (by omega)))
              · show nwV X _ _ 9 H42 (2 * i + 2) (13 * i + 13) 128 [(8, .int (nI (sp_gain σ tn rn i))), (0, .ref y), (1, .int (nI tn)), (2, .int (nI rn)), (3, .int (b2i b)), (4, .int (nI (sp_blind σ tn))), (5, .int (oI o1)), (6, .int (nI bb)), (7, .int (nI i))] [.int (nI (sp_gain σ tn rn i))]
                have hbb2 := hob2 bb rfl
                refine nw_iload C 7 dX4_nextLamp_128 rfl 130 rfl ?_
                refine nw_icmpgtN C (by omega) 136 dX4_nextLamp_130 (by decide) 133 rfl (fun h47 => ?_) (fun h47 => ?_)
                · refine nw_iload C 0 dX4_nextLamp_136 rfl 138 rfl ?_
                  refine nw_istore C [(6, .int (nI (sp_gain σ tn rn i))), (8, .int (nI (sp_gain σ tn rn i))), (0, .ref y), (1, .int (nI tn)), (2, .int (nI rn)), (3, .int (b2i b)), (4, .int (nI (sp_blind σ tn))), (5, .int (oI o1)), (7, .int (nI i))] dX4_nextLamp_138 (by decide) rfl 140 rfl ?_
                  refine nw_iload C 8 dX4_nextLamp_140 rfl 142 rfl ?_
                  refine nw_istore C [(5, .int (nI i)), (6, .int (nI (sp_gain σ tn rn i))), (8, .int (nI (sp_gain σ tn rn i))), (0, .ref y), (1, .int (nI tn)), (2, .int (nI rn)), (3, .int (b2i b)), (4, .int (nI (sp_blind σ tn))), (7, .int (nI i))] dX4_nextLamp_142 (by decide) rfl 144 rfl ?_
                  refine nw_iincN C 8 (c0 := 1) [(7, .int (nI (i + 1))), (5, .int (nI i)), (6, .int (nI (sp_gain σ tn rn i))), (8, .int (nI (sp_gain σ tn rn i))), (0, .ref y), (1, .int (nI tn)), (2, .int (nI rn)), (3, .int (b2i b)), (4, .int (nI (sp_blind σ tn)))] dX4_nextLamp_144 rfl (by decide) rfl 147 rfl ?_
                  refine nw_goto C 44 dX4_nextLamp_147 (by decide) ?_
                  exact nw_wide (by omega) (by omega) (nw_sub [4, 5, 6, 7, 8, 1, 2, 0] rfl (ih_lp14 H42 ro4 am4 (i + 1) (some i) (some (sp_gain σ tn rn i)) hsz hE hk3 hk5 hR (by omega) (by rw [sp_lamps_b hnw ho2.symm, if_pos (by omega)]) (by rw [sp_lamps_b hnw ho2.symm, if_pos (by omega)]) (fun v hv => by cases hv; exact hgn) (by omega)))
                · refine nw_goto C 144 dX4_nextLamp_133 (by decide) ?_
                  refine nw_iincN C 8 (c0 := 1) [(7, .int (nI (i + 1))), (8, .int (nI (sp_gain σ tn rn i))), (0, .ref y), (1, .int (nI tn)), (2, .int (nI rn)), (3, .int (b2i b)), (4, .int (nI (sp_blind σ tn))), (5, .int (oI o1)), (6, .int (nI bb))] dX4_nextLamp_144 rfl (by decide) rfl 147 rfl ?_
                  refine nw_goto C 44 dX4_nextLamp_147 (by decide) ?_
                  exact nw_wide (by omega) (by omega) (nw_sub [2, 3, 4, 5, 6, 7, 8, 0] rfl (ih_lp14 H42 ro4 am4 (i + 1) o1 (some bb) hsz hE hk3 hk5 hR (by omega) (by rw [sp_lamps_b hnw ho2.symm, if_neg (by omega)]; exact ho1) (by rw [sp_lamps_b hnw ho2.symm, if_neg (by omega)]; exact ho2) hob2 (by omega)))
            · refine nw_goto C 144 dX4_nextLamp_65 (by decide) ?_
              refine nw_iincN C 7 (c0 := 1) [(7, .int (nI (i + 1))), (0, .ref y), (1, .int (nI tn)), (2, .int (nI rn)), (3, .int (b2i b)), (4, .int (nI (sp_blind σ tn))), (5, .int (oI o1)), (6, .int (oI o2))] dX4_nextLamp_144 rfl (by decide) rfl 147 rfl ?_
              refine nw_goto C 44 dX4_nextLamp_147 (by decide) ?_
              exact nw_wide (by omega) (by omega) (nw_sub [1, 2, 3, 4, 5, 6, 7, 0] rfl (ih_lp14 H2 ro3 am3 (i + 1) o1 o2 hsz hE hk3 hk5 hR (by omega) (by rw [sp_lamps_w (by assumption)]; exact ho1) (by rw [sp_lamps_w (by assumption)]; exact ho2) hob2 (by omega)))
      exact nw_wide (by omega) (by omega) (nw_sub [4, 5, 6, 7, 3, 2, 1, 0] rfl (lp14 _ H1 ro am 0 none none (Nat.le_of_eq hzb.symm) hE (fun _ _ => rfl) (fun _ _ => rfl) hR (Nat.zero_le _) rfl rfl (fun v hv => by cases hv) (Nat.lt_succ_self _)))
    · refine nw_aload_n C 0 dX4_nextLamp_21 rfl 22 rfl ?_
      refine nw_iconst C (nI 1) dX4_nextLamp_22 (by decide) 23 rfl ?_
      refine nw_callV C (mX4_no _ C.hfl d y (.int (nI 0)) (.int (nI (gr_w (sg_gr σ)))) (.int (nI (gr_h (sg_gr σ)))) (.ref (am 9)) (.int (nI (gaM_f (sg_ga σ)))) (.int (oI (gaM_t (sg_ga σ)))) (.ref (am 1)) (.ref (am 2)) (.ref (am 3)) (.ref (am 4)) (.int (nI (wo_s (sg_wo σ)))) (.int (nI (wo_m (sg_wo σ)))) (.int (nI (sp_after (wo_x (sg_wo σ))))) (.ref (am 11)) (.ref (am 12)) (.int (nI (sg_ri σ))) (.ref (am 8)) (.ref (am 5)) (.ref (am 6)) (.int (nI (sg_rf σ))) (nI 1) H1 hB hyB hmX) kX4_no q1694 (hmX.is C (ci := 9) rfl) (As := [.int (nI 1)]) (rest := []) rfl rfl ⟨⟨Nat.le_of_ble_eq_true rfl, Nat.le_of_ble_eq_true rfl⟩, (show 0 + 0 ≤ 130 by omega), (show 0 + 0 ≤ 840 by omega)⟩ (Nat.le_of_ble_eq_true rfl) (fun q8 h8 h9 => h9.elim (fun e9 => by rw [e9]; exact hAy) (fun e9 => absurd h8 (Nat.not_lt.mpr e9))) dX4_nextLamp_23 26 rfl (fun v9 H48 hR49 hz50 hq51 => ?_) nw_noX
      obtain ⟨rfl, ho52⟩ := hR49
      have hR8 := hR.ext hext
      have hR9 : nwMW d ro am y σ (nI 1) H48 := hR8.obj hz50 (fun q9 g9 n9 _ => hq51 q9 g9 (fun e9 => e9.elim n9 (Nat.not_le.mpr g9))) mSame.rfl ho52
      have hle9 : H.size ≤ H48.size := Nat.le_trans (Nat.le_of_eq hzb.symm) (Nat.le_trans hext.1 hz50)
      show nwV X _ _ 9 H48 (0 + 0) (0 + 0) 26 [(0, .ref y), (1, .int (nI tn)), (2, .int r), (3, .int (b2i b))] [.int (nI 0)]
      refine nw_wide (k' := 0) (n' := 0) (by omega) (by omega) ?_
      have hop : op_nextLamp σ (nI tn) r b = (1, 0) := by simp [op_nextLamp, h5, h12, en_tn]
      exact nw_iret C dX4_nextLamp_26 (by omega) (by omega) (by rw [hop]; exact ⟨rfl, ok, hle9, ro, am, hR9, fun _ _ => rfl⟩)
