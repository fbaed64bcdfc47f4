section
section
variable {post : St2 → Prop} {P : Int32 → Prop} {Q : Int32 → St2 → Prop} {t j h m l : Int32} {c : Int64} {a1 a2 a3 a4 a5 a6 : Nat → Int32} {a7 : Nat → Int64} {a8 a9 a10 : Nat → Int32}
theorem ps_same (a : Nat → Int32) : upd a 0 (a 0) = a := by
  funext k
  unfold upd
  split
  · rename_i e; rw [e]
  · rfl
/-- arrive: nobody is to come -/
theorem ps_arr0 (H : post (t, j, c, h, 0, l, a1, a2, a3, a4, a5, a6, a7, a8, a9, a10)) : wpX_arrive post (t, j, c, h, 0, l, a1, a2, a3, a4, a5, a6, a7, a8, a9, a10) :=
  ⟨1, br_t (by decide) (nm_r (e' := 0) (by decide) ⟨1, br_t (by decide) H⟩)⟩
/-- arrive: the one job is still to come -/
theorem ps_arrW (h9 : a9 0 = 0) (hw : t < a2 0) (H : post (t, j, c, h, 1, l, a1, a2, a3, a4, a5, a6, a7, a8, a9, a10)) : wpX_arrive post (t, j, c, h, 1, l, a1, a2, a3, a4, a5, a6, a7, a8, a9, a10) :=
  ⟨1, br_f (by decide) ⟨pk_in 0 24 (by decide), pk_in 0 24 (by decide) h9, br_t (show t < a2 (a9 0).toNatClampNeg by rw [h9]; exact hw) (nm_r (e' := 1) (by decide) ⟨2, br_f (by decide) ⟨pk_in 0 24 (by decide), pk_in 0 24 (by decide), nm_r (e' := a9) (ps_same a9) (nm_r (e' := 1) (by decide) (br_t (by decide) H))⟩⟩)⟩⟩
/-- arrive: the one job comes -/
theorem ps_arrC (h9 : a9 0 = 0) (hw : ¬ t < a2 0) (H : post (t, j, c, h, 0, 1, a1, a2, upd a3 0 1, a4, a5, a6, a7, a8, a9, upd a10 0 0)) : wpX_arrive post (t, j, c, h, 1, 0, a1, a2, a3, a4, a5, a6, a7, a8, a9, a10) := by
  have e3 : upd a3 (a9 0).toNatClampNeg 1 = upd a3 0 1 := by rw [h9]; rfl
  have e10 : upd a10 0 (a9 0) = upd a10 0 0 := by rw [h9]
  exact ⟨2, br_f (by decide) ⟨pk_in 0 24 (by decide), pk_in 0 24 (by decide) h9, br_f (show ¬ t < a2 (a9 0).toNatClampNeg by rw [h9]; exact hw) ⟨pk_in 0 24 (by decide), pk_in 0 24 (by decide) h9, nm_r e3 ⟨pk_in 0 24 (by decide), pk_in 0 24 (by decide), nm_r e10 (nm_r (e' := 1) (by decide) (nm_r (e' := 1) (by decide) (br_t (by decide) (nm_r (e' := 0) (by decide) ⟨1, br_t (by decide) H⟩))))⟩⟩⟩⟩
/-- push onto the empty heap -/
theorem ps_push (H : post (t, j, c, 1, m, l, a1, a2, a3, a4, a5, a6, a7, upd a8 0 0, a9, a10)) : wpX_push post (t, j, c, 0, m, l, a1, a2, a3, a4, a5, a6, a7, a8, a9, a10) 0 :=
  nm_r (e' := 1) (by decide) ⟨1, br_t (by decide) ⟨pk_in 0 8 (by decide), nm_e H⟩⟩
/-- taking in from the line: nobody in line -/
theorem ps_adm0 (H : post (t, j, c, h, m, 0, a1, a2, a3, a4, a5, a6, a7, a8, a9, a10)) : wpX_admit post (t, j, c, h, m, 0, a1, a2, a3, a4, a5, a6, a7, a8, a9, a10) :=
  ⟨1, br_t (by decide) (nm_r (e' := 0) (by decide) ⟨1, br_t (by decide) H⟩)⟩
/-- taking in from the line: the one job -/
theorem ps_admC (h10 : a10 0 = 0) (H : post (t, j, c, 1, m, 0, a1, a2, upd a3 0 2, upd a4 0 t, a5, a6, vp_updL a7 0 (c + (a1 0).toInt64), upd a8 0 0, a9, a10)) : wpX_admit post (t, j, c, 0, m, 1, a1, a2, a3, a4, a5, a6, a7, a8, a9, a10) :=
  ⟨2, br_f (by decide) (br_f (by decide) ⟨pk_in 0 24 (by decide), nm_r (e' := 0) h10 ⟨pk_in 0 24 (by decide), nm_e ⟨pk_in 0 24 (by decide), nm_e ⟨pk_in 0 24 (by decide), pk_in 0 24 (by decide), nm_e (ps_push (nm_r (e' := 1) (by decide) (br_t (by decide) (nm_r (e' := 0) (by decide) ⟨1, br_t (by decide) H⟩))))⟩⟩⟩⟩)⟩
/-- stretch: nothing to come, nothing served -/
theorem ps_str0 {k : Int32} (hk : 1 ≤ k) (H : P k) : wpX_stretch P (t, j, c, 0, 0, l, a1, a2, a3, a4, a5, a6, a7, a8, a9, a10) k :=
  br_t (by decide) (br_t (by decide) (br_t hk H))
/-- stretch: one to come, nothing served -/
theorem ps_strW {T A K : Nat} (h9 : a9 0 = 0) (h2 : a2 0 = nI A) (hT : T < A) (hA : A ≤ 1000) (hK : 1 ≤ K) (hK5 : K ≤ 5000) (H : P (nI (min K (A - T)))) : wpX_stretch P (nI T, j, c, 0, 1, l, a1, a2, a3, a4, a5, a6, a7, a8, a9, a10) (nI K) := by
  have e : a2 (a9 0).toNatClampNeg - nI T = nI (A - T) := by
    rw [h9, show a2 (0 : Int32).toNatClampNeg = nI A from h2]
    exact pk_sub (by omega)
  refine br_f (by decide) ⟨pk_in 0 24 (by decide) h9, pk_le K (A - T) (fun z => ?_) (fun z => ⟨pk_in 0 24 (by decide) h9, nm_r e ?_⟩) rfl e⟩
  · rw [show min K (A - T) = K by omega] at H
    exact br_t (by decide) (br_t (nI_le (a := 1) hK (by omega)) H)
  · rw [show min K (A - T) = A - T by omega] at H
    exact br_t (by decide) (br_t (nI_le (a := 1) (by omega) (by omega)) H)
/-- stretch: one served from the count 0 -/
theorem ps_strS {S K : Nat} (h8 : a8 0 = 0) (h7 : a7 0 = lN S) (hS : 1 ≤ S) (hS5 : S ≤ 100000) (hK : 1 ≤ K) (hK5 : K ≤ 5000) (H : P (nI (min K ((S + 840 - 1) / 840)))) : wpX_stretch P (t, j, 0, 1, 0, l, a1, a2, a3, a4, a5, a6, a7, a8, a9, a10) (nI K) := by
  have e4 : a7 (a8 0).toNatClampNeg - 0 = lN S := by
    rw [h8, show a7 (0 : Int32).toNatClampNeg = lN S from h7]
    exact lN_sub (Nat.zero_le S)
  have e8 : (840 : Int32).toInt64 = lN 840 := by decide
  have e6 : ((lN S + (840 : Int32).toInt64) - 1) / (840 : Int32).toInt64 = lN ((S + 840 - 1) / 840) := by
    rw [e8, lN_add, show (1 : Int64) = lN 1 from rfl, lN_sub (by omega), pk_lDiv (by omega) (by omega) (by omega)]
  refine br_t (by decide) (br_f (by decide) ⟨by decide, nm_r (e' := 840) (by decide) ⟨pk_in 0 24 (by decide) h8, nm_r e4 ⟨by decide, nm_r e6 (ek_if (d := K ≤ (S + 840 - 1) / 840) ?_ (fun z => ?_) (fun z => ?_))⟩⟩⟩)
  · rw [nI_l (by omega)]
    exact lN_le (by omega) (by omega)
  · rw [show min K ((S + 840 - 1) / 840) = K by omega] at H
    exact br_t (nI_le (a := 1) hK (by omega)) H
  · rw [show min K ((S + 840 - 1) / 840) = (S + 840 - 1) / 840 by omega] at H
    rw [lN_i]
    exact br_t (nI_le (a := 1) (by omega) (by omega)) H
/-- takeOut: the heap's one job -/
theorem ps_take (H : post (t, j, c, 0, m, l, a1, a2, a3, a4, a5, a6, a7, a8, a9, a10)) : wpX_takeOut post (t, j, c, 1, m, l, a1, a2, a3, a4, a5, a6, a7, a8, a9, a10) 0 :=
  nm_r (e' := 0) (by decide) ⟨pk_in 0 8 (by decide), nm_e (br_t rfl H)⟩
/-- complete: nothing served -/
theorem ps_cmp0 (H : Q 0 (t, j, c, 0, m, l, a1, a2, a3, a4, a5, a6, a7, a8, a9, a10)) : wpX_complete Q (t, j, c, 0, m, l, a1, a2, a3, a4, a5, a6, a7, a8, a9, a10) :=
  ⟨1, br_f (by decide) (br_t (by decide) H)⟩
/-- complete: the one served isn't done -/
theorem ps_cmpN (h8 : a8 0 = 0) (hc : c < a7 0) (H : Q 0 (t, j, c, 1, m, l, a1, a2, a3, a4, a5, a6, a7, a8, a9, a10)) : wpX_complete Q (t, j, c, 1, m, l, a1, a2, a3, a4, a5, a6, a7, a8, a9, a10) :=
  ⟨1, br_f (by decide) (br_f (by decide) ⟨pk_in 0 24 (by decide) h8, br_t (show c < a7 (a8 0).toNatClampNeg by rw [h8]; exact hc) H⟩)⟩
/-- complete: the one served is done -/
theorem ps_cmpD (h8 : a8 0 = 0) (hc : ¬ c < a7 0) (H : Q 1 (t, j, c, 0, m, l, a1, a2, upd a3 0 3, a4, upd a5 0 (t - 1), upd a6 0 (a1 0), a7, a8, a9, a10)) : wpX_complete Q (t, j, c, 1, m, l, a1, a2, a3, a4, a5, a6, a7, a8, a9, a10) :=
  ⟨2, br_f (by decide) (br_f (by decide) ⟨pk_in 0 24 (by decide) h8, br_f (show ¬ c < a7 (a8 0).toNatClampNeg by rw [h8]; exact hc) (nm_r (e' := 0) h8 ⟨pk_in 0 24 (by decide), nm_e ⟨pk_in 0 24 (by decide), nm_e ⟨pk_in 0 24 (by decide), pk_in 0 24 (by decide), nm_e (ps_take (nm_r (e' := 1) (by decide) (br_f (by decide) (br_t (by decide) H))))⟩⟩⟩)⟩)⟩
/-- the questions, of job 0: there is none -/
theorem ps_state0 (H : P (-4)) : wpX_state P (t, 0, c, h, m, l, a1, a2, a3, a4, a5, a6, a7, a8, a9, a10) 0 :=
  br_f (by decide) (br_f (by decide) (br_f (by decide) H))
theorem ps_had0 (H : P (-4)) : wpX_had P (t, 0, c, h, m, l, a1, a2, a3, a4, a5, a6, a7, a8, a9, a10) 0 :=
  br_f (by decide) (br_f (by decide) (br_f (by decide) H))
theorem ps_admitted0 (H : P (-4)) : wpX_admitted P (t, 0, c, h, m, l, a1, a2, a3, a4, a5, a6, a7, a8, a9, a10) 0 :=
  br_f (by decide) (br_f (by decide) (br_f (by decide) H))
theorem ps_finished0 (H : P (-4)) : wpX_finished P (t, 0, c, h, m, l, a1, a2, a3, a4, a5, a6, a7, a8, a9, a10) 0 :=
  br_f (by decide) (br_f (by decide) (br_f (by decide) H))
theorem ps_cancel0 (H : Q (-4) (t, 0, c, h, m, l, a1, a2, a3, a4, a5, a6, a7, a8, a9, a10)) : wpX_cancel Q (t, 0, c, h, m, l, a1, a2, a3, a4, a5, a6, a7, a8, a9, a10) 0 :=
  br_f (by decide) (br_f (by decide) (br_f (by decide) H))
/-- the questions, of job 0: there is one -/
theorem ps_state1 (H : P (a3 0)) : wpX_state P (t, 1, c, h, m, l, a1, a2, a3, a4, a5, a6, a7, a8, a9, a10) 0 :=
  br_f (by decide) (br_t (by decide) (br_t rfl ⟨pk_in 0 24 (by decide), H⟩))
theorem ps_admitted1 (H : P (a4 0)) : wpX_admitted P (t, 1, c, h, m, l, a1, a2, a3, a4, a5, a6, a7, a8, a9, a10) 0 :=
  br_f (by decide) (br_t (by decide) (br_t rfl ⟨pk_in 0 24 (by decide), H⟩))
theorem ps_finished1 (H : P (a5 0)) : wpX_finished P (t, 1, c, h, m, l, a1, a2, a3, a4, a5, a6, a7, a8, a9, a10) 0 :=
  br_f (by decide) (br_t (by decide) (br_t rfl ⟨pk_in 0 24 (by decide), H⟩))
/-- had: not served -/
theorem ps_hadN (h3 : ¬ a3 0 = 2) (H : P (a6 0)) : wpX_had P (t, 1, c, h, m, l, a1, a2, a3, a4, a5, a6, a7, a8, a9, a10) 0 :=
  br_f (by decide) (br_t (by decide) (br_t rfl ⟨pk_in 0 24 (by decide), br_f h3 ⟨pk_in 0 24 (by decide), H⟩⟩))
/-- had: served -/
theorem ps_hadS (h3 : a3 0 = 2) (H : P (((a1 0).toInt64 - (a7 0 - c)).toInt32)) : wpX_had P (t, 1, c, h, m, l, a1, a2, a3, a4, a5, a6, a7, a8, a9, a10) 0 :=
  br_f (by decide) (br_t (by decide) (br_t rfl ⟨pk_in 0 24 (by decide), br_t h3 ⟨pk_in 0 24 (by decide), pk_in 0 24 (by decide), H⟩⟩))
/-- cancel: done already -/
theorem ps_cancelD (h3 : a3 0 = 3) (H : Q (-5) (t, 1, c, h, m, l, a1, a2, a3, a4, a5, a6, a7, a8, a9, a10)) : wpX_cancel Q (t, 1, c, h, m, l, a1, a2, a3, a4, a5, a6, a7, a8, a9, a10) 0 :=
  br_f (by decide) (br_t (by decide) (br_t rfl ⟨pk_in 0 24 (by decide), br_f (show ¬ a3 0 < 3 by rw [h3]; decide) H⟩))
/-- cancel: still to come -/
theorem ps_cancelW (h3 : a3 0 = 0) (h9 : a9 0 = 0) (H : Q (a6 0) (t, 1, c, h, 0, l, a1, a2, upd a3 0 4, a4, a5, upd a6 0 (a6 0), a7, a8, a9, a10)) : wpX_cancel Q (t, 1, c, h, 1, l, a1, a2, a3, a4, a5, a6, a7, a8, a9, a10) 0 :=
  br_f (by decide) (br_t (by decide) (br_t rfl ⟨pk_in 0 24 (by decide), br_t (show a3 0 < 3 by rw [h3]; decide) (ps_hadN (by rw [h3]; decide) ⟨pk_in 0 24 (by decide), br_t h3 ⟨2, br_f (by decide) ⟨pk_in 0 24 (by decide), br_t h9 (nm_r (e' := 1) (by decide) (br_t (by decide) ⟨pk_in 0 24 (by decide), nm_e ⟨pk_in 0 24 (by decide), nm_e H⟩⟩))⟩⟩⟩)⟩))
/-- cancel: served -/
theorem ps_cancelS (h3 : a3 0 = 2) (H : Q (((a1 0).toInt64 - (a7 0 - c)).toInt32) (t, 1, c, 0, m, l, a1, a2, upd a3 0 4, a4, a5, upd a6 0 (((a1 0).toInt64 - (a7 0 - c)).toInt32), a7, a8, a9, a10)) : wpX_cancel Q (t, 1, c, 1, m, l, a1, a2, a3, a4, a5, a6, a7, a8, a9, a10) 0 :=
  br_f (by decide) (br_t (by decide) (br_t rfl ⟨pk_in 0 24 (by decide), br_t (show a3 0 < 3 by rw [h3]; decide) (ps_hadS h3 ⟨pk_in 0 24 (by decide), br_f (show ¬ a3 0 = 0 by rw [h3]; decide) ⟨pk_in 0 24 (by decide), br_f (show ¬ a3 0 = 1 by rw [h3]; decide) ⟨1, br_t (by decide) (ps_take ⟨pk_in 0 24 (by decide), nm_e ⟨pk_in 0 24 (by decide), nm_e H⟩⟩)⟩⟩⟩)⟩))
end
end
section
section
variable {Q : Int32 → St2 → Prop} {t j : Int32} {c : Int64} {a1 a2 a3 a4 a5 a6 : Nat → Int32} {a7 : Nat → Int64} {a8 a9 a10 : Nat → Int32}
/-- run's loop with nothing to do: one stretch to the end -/
theorem ps_runI {r : Int32} {K n : Nat} (hK : K ≤ 5000) (H : ∀ t', Q r (t', j, c, 0, 0, 0, a1, a2, a3, a4, a5, a6, a7, a8, a9, a10)) : wX_run_21 Q (n + 2) (nI K) r t j c 0 0 0 a1 a2 a3 a4 a5 a6 a7 a8 a9 a10 := by
  by_cases h0 : K = 0
  · rw [h0]
    exact br_t (by decide) (H t)
  · have e : nI K - nI K = 0 := by
      rw [pk_sub (Nat.le_refl K), Nat.sub_self]
      rfl
    exact br_f (nI_nle (by omega) (by omega)) (ps_arr0 (ps_adm0 (ps_str0 (nI_le (a := 1) (by omega) (by omega)) (br_t (by decide) (nm_e (nm_r e (ps_cmp0 (nm_r (Int32.add_zero r) (br_t (by decide) (H _))))))))))
/-- run's loop from the tick at which the job comes -/
theorem ps_runS {S A K n : Nat} (hS : 1 ≤ S) (hS5 : S ≤ 100000) (hA : A ≤ 1000) (hK : 1 ≤ K) (hK5 : K ≤ 5000) (h1 : a1 0 = nI S) (h2 : a2 0 = nI A) (h9 : a9 0 = 0)
    (HN : K * 840 < S → ∀ (t' : Int32) (b3 b4 : Nat → Int32) (b7 : Nat → Int64) (b8 b10 : Nat → Int32), b3 0 = 2 → b4 0 = nI A → b7 0 = lN S → Q 0 (t', j, lN (K * 840), 1, 0, 0, a1, a2, b3, b4, a5, a6, b7, b8, a9, b10))
    (HD : S ≤ K * 840 → ∀ (t' : Int32) (c' : Int64) (b3 b4 b5 b6 : Nat → Int32) (b7 : Nat → Int64) (b8 b10 : Nat → Int32), b3 0 = 3 → b4 0 = nI A → b5 0 = nI (A + (S - 1) / 840) → b6 0 = nI S → Q 1 (t', j, c', 0, 0, 0, a1, a2, b3, b4, b5, b6, b7, b8, a9, b10)) :
    wX_run_21 Q (n + 3) (nI K) 0 (nI A) j 0 0 1 0 a1 a2 a3 a4 a5 a6 a7 a8 a9 a10 := by
  have ec : (0 : Int64) + (a1 0).toInt64 = lN S := by
    rw [h1, nI_l (by omega)]
    exact (lN_add 0 S).trans (by rw [Nat.zero_add])
  have hm : ∀ D : Nat, D = (S + 840 - 1) / 840 → D ≤ 120 := by intro D hD; omega
  refine br_f (nI_nle (by omega) (by omega)) (ps_arrC h9 (by rw [h2]; exact nI_nlt (Nat.le_refl A) (by omega)) (ps_admC rfl (ps_strS (S := S) rfl (pk_uLs.trans ec) hS hS5 hK hK5 (br_f (by decide) ⟨by decide, ?_⟩))))
  generalize hk : min K ((S + 840 - 1) / 840) = k
  have ek : (0 : Int64) + (((840 : Int32) / 1).toInt64) * (nI k).toInt64 = lN (k * 840) := by
    rw [nI_l (by omega), show ((840 : Int32) / 1).toInt64 = lN 840 by decide, lN_mul]
    exact (lN_add 0 (840 * k)).trans (by rw [Nat.zero_add, Nat.mul_comm])
  refine nm_r ek (nm_r (nI_add A k) (nm_r (pk_sub (show k ≤ K by omega)) ?_))
  by_cases hd : k * 840 < S
  · have hkK : k = K := by omega
    subst hkK
    refine ps_cmpN rfl (show lN (k * 840) < vp_updL a7 0 (0 + (a1 0).toInt64) 0 by rw [pk_uLs, ec]; exact (lN_lt (by omega) (by omega)).mpr hd) (nm_r (e' := 0) (by decide) ?_)
    rw [Nat.sub_self]
    exact br_t (by decide) (HN hd _ _ _ _ _ _ pk_us pk_us (pk_uLs.trans ec))
  · refine ps_cmpD rfl (show ¬ lN (k * 840) < vp_updL a7 0 (0 + (a1 0).toInt64) 0 by rw [pk_uLs, ec, lN_lt (by omega) (by omega)]; exact hd) (nm_r (e' := 1) (by decide) ?_)
    refine ps_runI (by omega) (fun t' => HD (by omega) t' _ _ _ _ _ _ _ _ pk_us pk_us (pk_us.trans ?_) (pk_us.trans h1))
    obtain ⟨q, rfl⟩ : ∃ q, k = q + 1 := ⟨k - 1, by omega⟩
    rw [← Nat.add_assoc, nI_pred]
    congr 1
    omega
/-- run's loop from the start -/
theorem ps_runA {S A K n : Nat} (hS : 1 ≤ S) (hS5 : S ≤ 100000) (hA : A ≤ 1000) (hK5 : K ≤ 5000) (h1 : a1 0 = nI S) (h2 : a2 0 = nI A) (h9 : a9 0 = 0)
    (HW : K ≤ A → ∀ t' : Int32, Q 0 (t', j, 0, 0, 1, 0, a1, a2, a3, a4, a5, a6, a7, a8, a9, a10))
    (HN : ∀ W, W = K - A → A < K → W * 840 < S → ∀ (t' : Int32) (b3 b4 : Nat → Int32) (b7 : Nat → Int64) (b8 b10 : Nat → Int32), b3 0 = 2 → b4 0 = nI A → b7 0 = lN S → Q 0 (t', j, lN (W * 840), 1, 0, 0, a1, a2, b3, b4, a5, a6, b7, b8, a9, b10))
    (HD : ∀ W, W = K - A → A < K → S ≤ W * 840 → ∀ (t' : Int32) (c' : Int64) (b3 b4 b5 b6 : Nat → Int32) (b7 : Nat → Int64) (b8 b10 : Nat → Int32), b3 0 = 3 → b4 0 = nI A → b5 0 = nI (A + (S - 1) / 840) → b6 0 = nI S → Q 1 (t', j, c', 0, 0, 0, a1, a2, b3, b4, b5, b6, b7, b8, a9, b10)) :
    wX_run_21 Q (n + 4) (nI K) 0 (nI 0) j 0 0 1 0 a1 a2 a3 a4 a5 a6 a7 a8 a9 a10 := by
  by_cases h0 : K = 0
  · subst h0
    exact br_t (by decide) (HW (Nat.zero_le A) _)
  · by_cases hA0 : A = 0
    · subst hA0
      exact ps_runS (n := n + 1) hS hS5 hA (by omega) hK5 h1 h2 h9 (fun z => HN K rfl (by omega) z) (fun z => HD K rfl (by omega) z)
    · refine br_f (nI_nle (by omega) (by omega)) (ps_arrW h9 (by rw [h2]; exact nI_lt (by omega) (by omega)) (ps_adm0 (ps_strW (T := 0) h9 h2 (by omega) hA (by omega) hK5 (br_t (by decide) ?_))))
      generalize hk : min K (A - 0) = k
      refine nm_r (nI_add 0 k) (nm_r (pk_sub (show k ≤ K by omega)) (ps_cmp0 (nm_r (e' := 0) (by decide) ?_)))
      rw [Nat.zero_add]
      by_cases hc : K ≤ A
      · rw [show K - k = 0 by omega]
        exact br_t (by decide) (HW hc _)
      · have hkA : k = A := by omega
        subst hkA
        exact ps_runS hS hS5 hA (by omega) (by omega) h1 h2 h9 (fun z => HN (K - k) rfl (by omega) z) (fun z => HD (K - k) rfl (by omega) z)
end
end
section
section
variable {mc ms kc ks : Nat} {x0 x1 t : Int32} {c : Int64} {a1 a2 a3 a4 a5 a6 : Nat → Int32} {a7 : Nat → Int64} {a8 a9 a10 : Nat → Int32}
/-- the questions behind run: no job -/
theorem ps_tail0 : wL_lawOf_140 (fun r _ => r = 1) mc ms x0 x1 0 0 0 0 0 kc ks t 0 c 0 0 0 a1 a2 a3 a4 a5 a6 a7 a8 a9 a10 :=
  br_t rfl (ps_state0 (br_t rfl (br_t rfl (ps_had0 (br_t rfl (br_t rfl (ps_admitted0 (br_t rfl (br_t rfl (ps_finished0 (br_t rfl (br_t rfl (br_t (by decide) (br_t rfl (ps_cancel0 (br_t rfl (br_t rfl (ps_state0 (br_t rfl (br_t rfl (br_t rfl rfl)))))))))))))))))))))
/-- still to come -/
theorem ps_tailW (h3 : a3 0 = 0) (h4 : a4 0 = -5) (h5 : a5 0 = -5) (h6 : a6 0 = 0) (h9 : a9 0 = 0) : wL_lawOf_140 (fun r _ => r = 1) mc ms x0 x1 1 0 0 0 0 kc ks t 1 c 0 1 0 a1 a2 a3 a4 a5 a6 a7 a8 a9 a10 :=
  br_t rfl (ps_state1 (br_f (by decide) (br_t rfl (br_t (by decide) (br_t h3 (ps_hadN (by rw [h3]; decide) (br_f (by decide) (br_t rfl (br_t (h6.trans (by decide)) (ps_admitted1 (br_f (by decide) (br_t (by decide) (br_t h4 (ps_finished1 (br_f (by decide) (br_t rfl (br_t h5 (br_t (by decide) (br_t rfl (ps_cancelW h3 h9 (br_f (by decide) (br_t rfl (br_t (h6.trans (by decide)) (ps_state1 (br_f (by decide) (br_t rfl (br_t pk_us (br_t rfl rfl))))))))))))))))))))))))))))
/-- served, not done -/
theorem ps_tailN {S A W : Nat} (hS : S ≤ 100000) (hW : 1 ≤ W) (hWS : W * 840 < S) (h1 : a1 0 = nI S) (h3 : a3 0 = 2) (h4 : a4 0 = nI A) (h5 : a5 0 = -5) (h7 : a7 0 = lN S) : wL_lawOf_140 (fun r _ => r = 1) mc ms x0 (nI A) 1 (nI W) 0 0 0 kc ks t 1 (lN (W * 840)) 1 0 0 a1 a2 a3 a4 a5 a6 a7 a8 a9 a10 := by
  have hw : ¬ nI W ≤ 0 := nI_nle (by omega) (by omega)
  have eh : ((a1 0).toInt64 - (a7 0 - lN (W * 840))).toInt32 = nI W * 840 := by
    rw [h1, h7, nI_l (by omega), lN_sub (by omega), lN_sub (by omega), lN_i, show S - (S - W * 840) = W * 840 by omega]
    exact (pk_mul W 840).symm
  exact br_t rfl (ps_state1 (br_f (by decide) (br_t rfl (br_f hw (br_t h3 (ps_hadS h3 (br_f (by decide) (br_t rfl (br_t eh (ps_admitted1 (br_f (by decide) (br_f hw (br_t h4 (ps_finished1 (br_f (by decide) (br_t rfl (br_t h5 (br_f hw (br_t rfl (br_t rfl (ps_cancelS h3 (br_f (by decide) (br_t rfl (br_t eh (ps_state1 (br_f (by decide) (br_t rfl (br_t pk_us (br_t rfl rfl)))))))))))))))))))))))))))))
/-- done -/
theorem ps_tailD {S A W : Nat} (hS : 1 ≤ S) (hS5 : S ≤ 100000) (hW : 1 ≤ W) (hW5 : W ≤ 5000) (h3 : a3 0 = 3) (h4 : a4 0 = nI A) (h5 : a5 0 = nI (A + (S - 1) / 840)) (h6 : a6 0 = nI S) : wL_lawOf_140 (fun r _ => r = 1) mc ms (nI S) (nI A) 1 (nI W) 1 1 1 kc ks t 1 c 0 0 0 a1 a2 a3 a4 a5 a6 a7 a8 a9 a10 := by
  have hw : ¬ nI W ≤ 0 := nI_nle (by omega) (by omega)
  have ef : a5 0 = nI A + (nI S - 1) / 840 := by
    obtain ⟨q, rfl⟩ : ∃ q, S = q + 1 := ⟨S - 1, by omega⟩
    rw [h5, nI_pred, show (840 : Int32) = nI 840 from rfl, pk_div (by omega) (by omega) (by omega), nI_add]
    rfl
  exact br_t rfl (ps_state1 (br_f (by decide) (br_f (by decide) (br_t h3 (ps_hadN (by rw [h3]; decide) (br_f (by decide) (br_f (by decide) (br_t h6 (ps_admitted1 (br_f (by decide) (br_f hw (br_t h4 (ps_finished1 (br_f (by decide) (br_f (by decide) ⟨by decide, br_t ef (br_f hw (br_f (by decide) (br_t rfl (ps_cancelD h3 (br_f (by decide) (br_f (by decide) (br_t rfl (ps_state1 (br_f (by decide) (br_f (by decide) (br_t h3 (br_t rfl rfl))))))))))))⟩)))))))))))))))
end
end
section
/-- run's and the law's clamp of x: K -/
def ps_cl (x : Int32) (K : Nat) : Prop := (0 ≤ x ∧ x ≤ 5000 ∧ x = nI K) ∨ (0 ≤ x ∧ ¬ x ≤ 5000 ∧ K = 5000) ∨ (¬ 0 ≤ x ∧ K = 0)
theorem ps_cl_ex (x : Int32) : ∃ K, K ≤ 5000 ∧ ps_cl x K := by
  by_cases h0 : 0 ≤ x
  · by_cases h5 : x ≤ 5000
    · obtain ⟨K, hK, e⟩ := nI_of2 (M := 5000) (n := 5000) (by decide) (Int32.not_lt.mpr h0) h5
      exact ⟨K, hK, Or.inl ⟨h0, h5, e⟩⟩
    · exact ⟨5000, Nat.le_refl _, Or.inr (Or.inl ⟨h0, h5, rfl⟩)⟩
  · exact ⟨0, Nat.zero_le _, Or.inr (Or.inr ⟨h0, rfl⟩)⟩
section
variable {post : Int32 → St0 → Prop} {Q : Int32 → St2 → Prop} {mc ms kc ks K : Nat} {x0 x1 x2 x4 t j h m l : Int32} {c : Int64} {a1 a2 a3 a4 a5 a6 : Nat → Int32} {a7 : Nat → Int64} {a8 a9 a10 : Nat → Int32}
theorem ps_run (hc : ps_cl x2 K) (H : ∃ fu, wX_run_21 Q fu (nI K) 0 t j c h m l a1 a2 a3 a4 a5 a6 a7 a8 a9 a10) : wpX_run Q (t, j, c, h, m, l, a1, a2, a3, a4, a5, a6, a7, a8, a9, a10) x2 := by
  rcases hc with ⟨h0, h5, e⟩ | ⟨h0, h5, e⟩ | ⟨h0, e⟩
  · subst e
    exact br_t h0 (br_t h5 H)
  · subst e
    exact br_t h0 (br_f h5 H)
  · subst e
    exact br_f h0 (br_t (by decide) H)
theorem ps_51 (hc : ps_cl x2 K) (H : wL_lawOf_80 post mc ms x0 x1 x2 x4 (nI K) kc ks t j c h m l a1 a2 a3 a4 a5 a6 a7 a8 a9 a10) : wL_lawOf_51 post mc ms x0 x1 x2 x4 x4 kc ks t j c h m l a1 a2 a3 a4 a5 a6 a7 a8 a9 a10 := by
  refine br_t rfl ?_
  rcases hc with ⟨h0, h5, e⟩ | ⟨h0, h5, e⟩ | ⟨h0, e⟩
  · subst e
    exact br_t h0 (br_t h5 H)
  · subst e
    exact br_t h0 (br_f h5 H)
  · subst e
    exact br_f h0 H
/-- no job was taken: all that follows -/
theorem ps_bad : wL_lawOf_51 (fun r _ => r = 1) mc ms x0 x1 x2 0 0 kc ks t 0 c 0 0 0 a1 a2 a3 a4 a5 a6 a7 a8 a9 a10 := by
  obtain ⟨K, hK, hc⟩ := ps_cl_ex x2
  exact ps_51 hc (br_t rfl (br_t rfl (ps_run hc ⟨2, ps_runI (n := 0) hK (fun t' => br_t rfl ps_tail0)⟩)))
/-- the job was taken: all that follows -/
theorem ps_good {S A : Nat} (hS : 1 ≤ S) (hS5 : S ≤ 100000) (hA : A ≤ 1000) (h1 : a1 0 = nI S) (h2 : a2 0 = nI A) (h3 : a3 0 = 0) (h4 : a4 0 = -5) (h5 : a5 0 = -5) (h6 : a6 0 = 0) (h9 : a9 0 = 0) : wL_lawOf_51 (fun r _ => r = 1) mc ms (nI S) (nI A) x2 1 1 kc ks 0 1 0 0 1 0 a1 a2 a3 a4 a5 a6 a7 a8 a9 a10 := by
  obtain ⟨K, hK, hc⟩ := ps_cl_ex x2
  refine ps_51 hc (br_f (by decide) (pk_le K A (fun z => ?_) (fun z => ?_)))
  · refine br_f (by decide) (br_t (show (0 : Int32) * 840 < nI S from nI_lt (a := 0) (by omega) (by omega)) (ps_run hc ⟨4, ps_runA (n := 0) hS hS5 hA hK h1 h2 h9 (fun _ t' => ?_) (fun W _ g => absurd g (by omega)) (fun W _ g => absurd g (by omega))⟩))
    exact br_t rfl (ps_tailW h3 h4 h5 h6 h9)
  · rw [pk_sub (show A ≤ K by omega)]
    generalize hW : K - A = W
    refine br_f (by decide) (pk_lt (W * 840) S (fun g => ?_) (fun g => ?_) (pk_mul W 840) rfl)
    · refine ps_run hc ⟨4, ps_runA (n := 0) hS hS5 hA hK h1 h2 h9 (fun g => absurd g (by omega)) (fun W' eW _ g' => ?_) (fun W' eW _ g' => absurd g' (by omega))⟩
      have eW' : W' = W := by omega
      subst eW'
      exact fun t' b3 b4 b7 b8 b10 e3 e4 e7 => br_t rfl (ps_tailN hS5 (by omega) g h1 e3 e4 h5 e7)
    · refine ps_run hc ⟨4, ps_runA (n := 0) hS hS5 hA hK h1 h2 h9 (fun g => absurd g (by omega)) (fun W' eW _ g' => absurd g' (by omega)) (fun W' eW _ g' => ?_)⟩
      exact fun t' c' b3 b4 b5 b6 b7 b8 b10 e3 e4 e5 e6 => br_f (by decide) (ps_tailD hS hS5 (by omega) (by omega) e3 e4 e5 e6)
/-- submit: the first job -/
theorem ps_submit {S A : Nat} (hS : 1 ≤ S) (hS5 : S ≤ 100000) (hA : A ≤ 1000) (H : Q 0 (0, 1, c, h, 1, l, upd a1 0 (nI S), upd a2 0 (nI A), upd a3 0 0, upd a4 0 (-5), upd a5 0 (-5), upd a6 0 0, a7, a8, upd a9 0 0, a10)) : wpX_submit Q (0, 0, c, h, 0, l, a1, a2, a3, a4, a5, a6, a7, a8, a9, a10) (nI S) (nI A) := by
  have e2 : upd a2 0 (0 + nI A) = upd a2 0 (nI A) := by rw [Int32.zero_add]
  exact br_f (nI_nlt (b := 1) hS (by omega)) (br_t (nI_le (b := 100000) hS5 (by omega)) (br_f (nI_pos (by omega)) (br_t (nI_le (b := 1000) hA (by omega)) (br_t (by decide) (nm_r (e' := 1) (by decide) ⟨pk_in 0 24 (by decide), nm_e ⟨pk_in 0 24 (by decide), nm_r e2 ⟨pk_in 0 24 (by decide), nm_e ⟨pk_in 0 24 (by decide), nm_e ⟨pk_in 0 24 (by decide), nm_e ⟨pk_in 0 24 (by decide), nm_e ⟨1, br_t (by decide) ⟨pk_in 0 24 (by decide), nm_e (nm_r (e' := 1) (by decide) H)⟩⟩⟩⟩⟩⟩⟩⟩)))))
end
/-- the law's body, on any three ints -/
theorem ps_lawOf (p0 p1 p2 : Int32) : wpL_lawOf (fun r _ => r = 1) 154 2464 () p0 p1 p2 := by
  refine ⟨by decide, by decide, 10, 224, by decide, by decide, by decide, by decide, by decide, by decide, by decide, by decide, by decide, by decide, by decide, by decide, by decide, by decide, by decide, by decide, by decide, by decide, by decide, by decide, by decide, by decide, ?_⟩
  refine br_c (fun g1 => br_t g1 (br_f (by decide) ps_bad)) (fun g1 => br_c (fun g2 => br_f g1 (br_f (Int32.not_le.mpr g2) (br_f (by decide) ps_bad))) (fun g2 => br_c (fun g3 => br_f g1 (br_t (Int32.not_lt.mp g2) (br_t g3 (br_f (by decide) ps_bad)))) (fun g3 => br_c (fun g4 => br_f g1 (br_t (Int32.not_lt.mp g2) (br_f g3 (br_f (Int32.not_le.mpr g4) (br_f (by decide) ps_bad))))) (fun g4 => ?_))))
  obtain ⟨S, hS, rfl⟩ := nI_of2 (x := p0) (M := 100000) (n := 100000) (by decide) (fun z => g1 (Int32.lt_trans z (by decide))) (Int32.not_lt.mp g2)
  obtain ⟨A, hA, rfl⟩ := nI_of2 (x := p1) (M := 1000) (n := 1000) (by decide) g3 (Int32.not_lt.mp g4)
  have hS1 : 1 ≤ S := by
    rcases Nat.eq_zero_or_pos S with e | e
    · subst e
      exact absurd (show nI 0 < 1 by decide) g1
    · exact e
  exact ps_submit hS1 hS hA (br_t rfl (ps_good hS1 hS hA rfl rfl rfl rfl rfl rfl rfl))
theorem ps_cell {post : Int32 → Prop} {xs : Nat → Int32} {L : Nat} (k : Nat) (hL : L ≤ 3) (hk : k < 2 ^ 31) {x : Int32} (hx : x = nI k) (H : ∀ r, post r) : wpL_cellAt post L xs () x := by
  subst hx
  exact pk_le L k (fun _ => H _) (fun z => ⟨pk_in k L z, H _⟩)
theorem i_vc (xs : Nat → Int32) (L : Nat) (hL : L ≤ 3) : wpL_law (fun r => r = 1) L xs :=
  ps_cell 0 hL (by omega) rfl (fun r1 => ps_cell 1 hL (by omega) rfl (fun r2 => ps_cell 2 hL (by omega) rfl (fun r3 => ⟨154, 2464, by decide, by decide, ps_lawOf r1 r2 r3⟩)))
end
