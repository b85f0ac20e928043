/-! THE TWIN, part 6: displace -/
set_option maxRecDepth 100000
section ZTW5
variable {G : zG} {μ : zM} {m : Nat} {lam : Nat → Nat} {K : Nat → Nat → Int32} {P : zP}
/-- displace's loop -/
theorem disp_loop {D : Nat → Int32} {s : Nat} {goes : Bool} {d to : Nat} {post : Option Value → zM → Prop} (hs : s < 60) (hB : tBkOk P) (hto : to < 2 ^ 30)
    (fin : ∀ (μ1 : zM) (f : Nat → Int32), zTP G μ1 m lam (setK (setK K 8 (tDispN P D s goes (nI d) (nI (to / 6)) (pcn P 10)).2) 1 f) (tDispN P D s goes (nI d) (nI (to / 6)) (pcn P 10)).1 → zKp tTw μ μ1 → AW G 5 MX2_displace post 0 0 145 [(0, .ref m), (1, .int (nI s)), (2, .int (nI d)), (3, .int (nI to)), (4, .int (zB (goes = true)))] [] μ1) :
    ∀ n e, e + n = pcn P 10 → ∀ (μ1 : zM) (f : Nat → Int32), zTP G μ1 m lam (setK (setK K 8 (tDispN P D s goes (nI d) (nI (to / 6)) e).2) 1 f) (tDispN P D s goes (nI d) (nI (to / 6)) e).1 → zKp tTw μ μ1 → AW G 5 MX2_displace post 0 0 69 [(0, .ref m), (1, .int (nI s)), (2, .int (nI d)), (3, .int (nI to)), (4, .int (zB (goes = true))), (5, .int (nI e))] [] μ1 := by
  intro n
  induction n with
  | zero =>
    intro e he μ1 f hT hk
    have hm := hT.m
    have h1 := hT.a1
    have sm := tDispN_same (P := P) (D := D) (s := s) (goes := goes) (day := nI d) (to := nI (to / 6)) e
    obtain ⟨hn, hN⟩ := hT.2.2.b
    rw [sm.cn] at hn hN
    refine aw_iload (q := 71) dX2_displace_69 rfl rfl ?_
    first | refine aw_aload_n (i := 0) (q := 72) dX2_displace_71 rfl rfl rfl ?_ | refine aw_aloadN_n (i := 0) (q := 72) dX2_displace_71 rfl rfl rfl ?_ | refine aw_aloadQ_n (i := 0) (q := 72) dX2_displace_71 rfl rfl rfl ?_
    refine aw_getfield (q := 75) dX2_displace_72 gf_X2_7_2 (by assumption) rfl rfl ?_
    refine aw_bipush (v := 10) (q := 77) dX2_displace_75 rfl rfl ?_
    refine aw_iald (q := 78) (v := nI (pcn P 10)) (10) dX2_displace_77 (by assumption) (by first | assumption | (simp only [← nI_add, ← pk_mul]; rfl) | rfl) (by omega) (by omega) ((hT.2.1.g (by omega)).trans hn) rfl ?_
    refine aw_icmp_ge (tgt := 145) (q := 81) dX2_displace_78 (by decide) rfl (fun _ => ?_) (fun hc => absurd (nI_le (by omega) (by omega)) hc)
    have e2 : pcn P 10 = e := by omega
    rw [e2] at fin
    exact aw_locals (by exact ⟨rfl, rfl, rfl, rfl, rfl, trivial⟩) (fin μ1 f hT hk)
  | succ n ih =>
    intro e he μ1 f hT hk
    have hm := hT.m
    have h1 := hT.a1
    have sm := tDispN_same (P := P) (D := D) (s := s) (goes := goes) (day := nI d) (to := nI (to / 6)) e
    obtain ⟨hn, hN⟩ := hT.2.2.b
    rw [sm.cn] at hn hN
    have hlt : e < pcn P 10 := by omega
    have bk : ∀ c, (tDispN P D s goes (nI d) (nI (to / 6)) e).1 4 e c = P 4 e c := fun c => tDispN_bk e (Nat.le_refl _)
    refine aw_iload (q := 71) dX2_displace_69 rfl rfl ?_
    first | refine aw_aload_n (i := 0) (q := 72) dX2_displace_71 rfl rfl rfl ?_ | refine aw_aloadN_n (i := 0) (q := 72) dX2_displace_71 rfl rfl rfl ?_ | refine aw_aloadQ_n (i := 0) (q := 72) dX2_displace_71 rfl rfl rfl ?_
    refine aw_getfield (q := 75) dX2_displace_72 gf_X2_7_2 (by assumption) rfl rfl ?_
    refine aw_bipush (v := 10) (q := 77) dX2_displace_75 rfl rfl ?_
    refine aw_iald (q := 78) (v := nI (pcn P 10)) (10) dX2_displace_77 (by assumption) (by first | assumption | (simp only [← nI_add, ← pk_mul]; rfl) | rfl) (by omega) (by omega) ((hT.2.1.g (by omega)).trans hn) rfl ?_
    refine aw_icmp_ge (tgt := 145) (q := 81) dX2_displace_78 (by decide) rfl (fun hc => absurd hc (nI_ge hlt (by omega))) (fun _ => ?_)
    first | refine aw_aload_n (i := 0) (q := 82) dX2_displace_81 rfl rfl rfl ?_ | refine aw_aloadN_n (i := 0) (q := 82) dX2_displace_81 rfl rfl rfl ?_ | refine aw_aloadQ_n (i := 0) (q := 82) dX2_displace_81 rfl rfl rfl ?_
    refine aw_iload (q := 84) dX2_displace_82 rfl rfl ?_
    refine aw_iconst (v := 0) (q := 85) dX2_displace_84 rfl rfl ?_
    refine aw_callV (q := 88) dX2_displace_85 (C2_ofBooking (s := e) (c := 0) hT rfl rfl (by omega) (by omega)) cv_X2_88_2 (by assumption) rfl rfl (by decide) (by decide) (by first | exact Nat.le_of_ble_eq_true rfl | simp [zcat_rf, Value.category]) rfl (zpk ?_)
    rw [bk]
    refine aw_iload_n (i := 1) (q := 89) dX2_displace_88 rfl rfl rfl ?_
    refine aw_icmp_ne (tgt := 139) (q := 92) dX2_displace_89 (by decide) rfl (fun ha => ?_) (fun ha => ?_)
    · refine aw_iinc (q := 142) dX2_displace_139 rfl (by first | exact nI_1 _ | rfl) (by decide) rfl ?_
      refine aw_goto (tgt := 69) dX2_displace_142 (by decide) ?_
      have e3 : tDispN P D s goes (nI d) (nI (to / 6)) (e + 1) = tDispN P D s goes (nI d) (nI (to / 6)) e := by
        show (if _ then _ else _) = _
        rw [if_neg (fun h => ha h.1)]
      exact aw_locals (by exact ⟨rfl, rfl, rfl, rfl, rfl, rfl, trivial⟩) (ih (e + 1) (by omega) μ1 f (by rw [e3]; exact hT) hk)
    · first | refine aw_aload_n (i := 0) (q := 93) dX2_displace_92 rfl rfl rfl ?_ | refine aw_aloadN_n (i := 0) (q := 93) dX2_displace_92 rfl rfl rfl ?_ | refine aw_aloadQ_n (i := 0) (q := 93) dX2_displace_92 rfl rfl rfl ?_
      refine aw_iload (q := 95) dX2_displace_93 rfl rfl ?_
      refine aw_iconst (v := 4) (q := 96) dX2_displace_95 rfl rfl ?_
      refine aw_callV (q := 99) dX2_displace_96 (C2_ofBooking (s := e) (c := 4) hT rfl rfl (by omega) (by omega)) cv_X2_88_2 (by assumption) rfl rfl (by decide) (by decide) (by first | exact Nat.le_of_ble_eq_true rfl | simp [zcat_rf, Value.category]) rfl (zpk ?_)
      rw [bk]
      refine aw_if_ne (tgt := 139) (q := 102) dX2_displace_99 (by decide) rfl (fun hb => ?_) (fun hb => ?_)
      · refine aw_iinc (q := 142) dX2_displace_139 rfl (by first | exact nI_1 _ | rfl) (by decide) rfl ?_
        refine aw_goto (tgt := 69) dX2_displace_142 (by decide) ?_
        have e3 : tDispN P D s goes (nI d) (nI (to / 6)) (e + 1) = tDispN P D s goes (nI d) (nI (to / 6)) e := by
          show (if _ then _ else _) = _
          rw [if_neg (fun h => hb h.2)]
        exact aw_locals (by exact ⟨rfl, rfl, rfl, rfl, rfl, rfl, trivial⟩) (ih (e + 1) (by omega) μ1 f (by rw [e3]; exact hT) hk)
      · skip
        have lose : (goes = false ∨ P 4 e 3 = 1) → ∀ L, zLs L [(0, .ref m), (1, .int (nI s)), (2, .int (nI d)), (3, .int (nI to)), (4, .int (zB (goes = true))), (5, .int (nI e))] → AW G 5 MX2_displace post 0 0 118 L [] μ1 := by
          intro hg L hL
          refine aw_locals hL ?_
          first | refine aw_aload_n (i := 0) (q := 119) dX2_displace_118 rfl rfl rfl ?_ | refine aw_aloadN_n (i := 0) (q := 119) dX2_displace_118 rfl rfl rfl ?_ | refine aw_aloadQ_n (i := 0) (q := 119) dX2_displace_118 rfl rfl rfl ?_
          refine aw_iload (q := 121) dX2_displace_119 rfl rfl ?_
          refine aw_iconst (v := 2) (q := 122) dX2_displace_121 rfl rfl ?_
          refine aw_callV (q := 125) dX2_displace_122 (C2_lose hT rfl rfl (by rw [sm.cn]; exact hlt) (by decide) (sm.bkOk hB)) cv_X2_124_2 (by assumption) rfl rfl (by decide) (by decide) (by first | exact Nat.le_of_ble_eq_true rfl | simp [zcat_rf, Value.category]) rfl (fun v122 μ2 hp => ?_)
          obtain ⟨rfl, ⟨n2, hT2⟩, hk2⟩ := hp
          rw [bk, bk, setK_ne (by decide), setK_eq, setK_comm _ _ _ (by decide : (1 : Nat) ≠ 8), setK_twice, setK_twice] at hT2
          refine aw_goto (tgt := 139) dX2_displace_125 (by decide) ?_
          refine aw_iinc (q := 142) dX2_displace_139 rfl (by first | exact nI_1 _ | rfl) (by decide) rfl ?_
          refine aw_goto (tgt := 69) dX2_displace_142 (by decide) ?_
          have e3 : tDispN P D s goes (nI d) (nI (to / 6)) (e + 1) = (tLose (tDispN P D s goes (nI d) (nI (to / 6)) e).1 e 2, upd (upd (tDispN P D s goes (nI d) (nI (to / 6)) e).2 2 ((tDispN P D s goes (nI d) (nI (to / 6)) e).2 2 + P 4 e 1)) 3 ((tDispN P D s goes (nI d) (nI (to / 6)) e).2 3 + P 4 e 5)) := by
            show (if _ then (if _ then _ else _) else _) = _
            rw [if_pos ⟨ha, hb⟩, if_pos hg]
          exact aw_locals (by exact ⟨rfl, rfl, rfl, rfl, rfl, rfl, trivial⟩) (ih (e + 1) (by omega) μ2 n2 (by rw [e3]; exact hT2) (hk.tr hk2))
        refine aw_iload (q := 104) dX2_displace_102 rfl rfl ?_
        refine aw_if_eq (tgt := 118) (q := 107) dX2_displace_104 (by decide) rfl (fun hc => ?_) (fun hc => ?_)
        · skip
          have hg : goes = false := by
            have := zB_0 hc
            cases goes <;> simp_all
          exact lose (Or.inl hg) _ ⟨rfl, rfl, rfl, rfl, rfl, rfl, trivial⟩
        · first | refine aw_aload_n (i := 0) (q := 108) dX2_displace_107 rfl rfl rfl ?_ | refine aw_aloadN_n (i := 0) (q := 108) dX2_displace_107 rfl rfl rfl ?_ | refine aw_aloadQ_n (i := 0) (q := 108) dX2_displace_107 rfl rfl rfl ?_
          refine aw_iload (q := 110) dX2_displace_108 rfl rfl ?_
          refine aw_iconst (v := 3) (q := 111) dX2_displace_110 rfl rfl ?_
          have hg : goes = true := zB_1 hc
          refine aw_callV (q := 114) dX2_displace_111 (C2_ofBooking (s := e) (c := 3) hT rfl rfl (by omega) (by omega)) cv_X2_88_2 (by assumption) rfl rfl (by decide) (by decide) (by first | exact Nat.le_of_ble_eq_true rfl | simp [zcat_rf, Value.category]) rfl (zpk ?_)
          rw [bk]
          refine aw_iconst (v := 1) (q := 115) dX2_displace_114 rfl rfl ?_
          refine aw_icmp_ne (tgt := 128) (q := 118) dX2_displace_115 (by decide) rfl (fun hd => ?_) (fun hd => ?_)
          · first | refine aw_aload_n (i := 0) (q := 129) dX2_displace_128 rfl rfl rfl ?_ | refine aw_aloadN_n (i := 0) (q := 129) dX2_displace_128 rfl rfl rfl ?_ | refine aw_aloadQ_n (i := 0) (q := 129) dX2_displace_128 rfl rfl rfl ?_
            refine aw_iload (q := 131) dX2_displace_129 rfl rfl ?_
            refine aw_iload_n (i := 2) (q := 132) dX2_displace_131 rfl rfl rfl ?_
            refine aw_iload_n (i := 3) (q := 133) dX2_displace_132 rfl rfl rfl ?_
            refine aw_bipush (v := 6) (q := 135) dX2_displace_133 rfl rfl ?_
            refine aw_idiv (q := 136) dX2_displace_135 (by decide) rfl ?_
            rw [zdiv6 (by omega)]
            refine aw_callV (q := 139) dX2_displace_136 (C2_tallyMoved hT rfl (by rw [sm.cn]; exact hlt) (sm.bkOk hB)) cv_X2_127_2 (by assumption) rfl rfl (by decide) (by decide) (by first | exact Nat.le_of_ble_eq_true rfl | simp [zcat_rf, Value.category]) rfl (fun v136 μ2 hp => ?_)
            obtain ⟨rfl, ⟨n2, hT2⟩, hk2⟩ := hp
            rw [setK_twice] at hT2
            refine aw_iinc (q := 142) dX2_displace_139 rfl (by first | exact nI_1 _ | rfl) (by decide) rfl ?_
            refine aw_goto (tgt := 69) dX2_displace_142 (by decide) ?_
            have e3 : tDispN P D s goes (nI d) (nI (to / 6)) (e + 1) = (tMoved (tDispN P D s goes (nI d) (nI (to / 6)) e).1 e (nI d) (nI (to / 6)), (tDispN P D s goes (nI d) (nI (to / 6)) e).2) := by
              show (if _ then (if _ then _ else _) else _) = _
              rw [if_pos ⟨ha, hb⟩, if_neg (by rw [hg]; simp [hd])]
            exact aw_locals (by exact ⟨rfl, rfl, rfl, rfl, rfl, rfl, trivial⟩) (ih (e + 1) (by omega) μ2 n2 (by rw [e3]; exact hT2) (hk.tr hk2))
          · skip
            exact lose (Or.inr hd) _ ⟨rfl, rfl, rfl, rfl, rfl, rfl, trivial⟩
end ZTW5
