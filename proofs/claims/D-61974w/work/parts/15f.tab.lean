abbrev b_M_differ : ByteArray := prog_7_method_47_code
def y_M_differ : MethodName := ⟨"RevisionWriteModel", "differ", "(II)I"⟩
def k_M_differ (q : Nat) : Option (Instr × Nat) := cond (Nat.blt q 185) (cond (Nat.blt q 82) (cond (Nat.blt q 41) (cond (Nat.blt q 20) (cond (Nat.blt q 10) (cond (Nat.blt q 5) (cond (Nat.blt q 1) (cond (Nat.beq q 0) (some (.aload_n 0, 1)) none) (cond (Nat.blt q 2) (cond (Nat.beq q 1) (some (.iload_n 1, 1)) none) (cond (Nat.beq q 2) (some (.invokevirtual 201, 3)) none))) (cond (Nat.blt q 8) (cond (Nat.beq q 5) (some (.ifCond .eq 11, 3)) none) (cond (Nat.blt q 9) (cond (Nat.beq q 8) (some (.aload_n 0, 1)) none) (cond (Nat.beq q 9) (some (.iload_n 2, 1)) none)))) (cond (Nat.blt q 17) (cond (Nat.blt q 13) (cond (Nat.beq q 10) (some (.invokevirtual 201, 3)) none) (cond (Nat.blt q 16) (cond (Nat.beq q 13) (some (.ifCond .ne 5, 3)) none) (cond (Nat.beq q 16) (some (.iconst 0, 1)) none))) (cond (Nat.blt q 18) (cond (Nat.beq q 17) (some (.ireturn, 1)) none) (cond (Nat.blt q 19) (cond (Nat.beq q 18) (some (.aload_n 0, 1)) none) (cond (Nat.beq q 19) (some (.iconst 0, 1)) none))))) (cond (Nat.blt q 30) (cond (Nat.blt q 25) (cond (Nat.blt q 23) (cond (Nat.beq q 20) (some (.putfield 204, 3)) none) (cond (Nat.blt q 24) (cond (Nat.beq q 23) (some (.aload_n 0, 1)) none) (cond (Nat.beq q 24) (some (.iconst 1, 1)) none))) (cond (Nat.blt q 28) (cond (Nat.beq q 25) (some (.putfield 207, 3)) none) (cond (Nat.blt q 29) (cond (Nat.beq q 28) (some (.iconst 1, 1)) none) (cond (Nat.beq q 29) (some (.istore_n 3, 1)) none)))) (cond (Nat.blt q 36) (cond (Nat.blt q 31) (cond (Nat.beq q 30) (some (.iload_n 3, 1)) none) (cond (Nat.blt q 33) (cond (Nat.beq q 31) (some (.bipush 40, 2)) none) (cond (Nat.beq q 33) (some (.if_icmp .gt 147, 3)) none))) (cond (Nat.blt q 39) (cond (Nat.blt q 38) (cond (Nat.beq q 36) (some (.bipush 41, 2)) none) (cond (Nat.beq q 38) (some (.iload_n 1, 1)) none)) (cond (Nat.blt q 40) (cond (Nat.beq q 39) (some (.imul, 1)) none) (cond (Nat.beq q 40) (some (.iload_n 3, 1)) none)))))) (cond (Nat.blt q 59) (cond (Nat.blt q 49) (cond (Nat.blt q 46) (cond (Nat.blt q 42) (cond (Nat.beq q 41) (some (.iadd, 1)) none) (cond (Nat.blt q 44) (cond (Nat.beq q 42) (some (.istore 4, 2)) none) (cond (Nat.beq q 44) (some (.bipush 41, 2)) none))) (cond (Nat.blt q 47) (cond (Nat.beq q 46) (some (.iload_n 2, 1)) none) (cond (Nat.blt q 48) (cond (Nat.beq q 47) (some (.imul, 1)) none) (cond (Nat.beq q 48) (some (.iload_n 3, 1)) none)))) (cond (Nat.blt q 53) (cond (Nat.blt q 50) (cond (Nat.beq q 49) (some (.iadd, 1)) none) (cond (Nat.blt q 52) (cond (Nat.beq q 50) (some (.istore 5, 2)) none) (cond (Nat.beq q 52) (some (.aload_n 0, 1)) none))) (cond (Nat.blt q 56) (cond (Nat.beq q 53) (some (.getfield 39, 3)) none) (cond (Nat.blt q 58) (cond (Nat.beq q 56) (some (.iload 4, 2)) none) (cond (Nat.beq q 58) (some (.iaload, 1)) none))))) (cond (Nat.blt q 70) (cond (Nat.blt q 64) (cond (Nat.blt q 60) (cond (Nat.beq q 59) (some (.iconst (-1), 1)) none) (cond (Nat.blt q 63) (cond (Nat.beq q 60) (some (.if_icmp .eq 7, 3)) none) (cond (Nat.beq q 63) (some (.iconst 1, 1)) none))) (cond (Nat.blt q 67) (cond (Nat.beq q 64) (some (.goto 4, 3)) none) (cond (Nat.blt q 68) (cond (Nat.beq q 67) (some (.iconst 0, 1)) none) (cond (Nat.beq q 68) (some (.istore 6, 2)) none)))) (cond (Nat.blt q 76) (cond (Nat.blt q 71) (cond (Nat.beq q 70) (some (.aload_n 0, 1)) none) (cond (Nat.blt q 74) (cond (Nat.beq q 71) (some (.getfield 39, 3)) none) (cond (Nat.beq q 74) (some (.iload 5, 2)) none))) (cond (Nat.blt q 78) (cond (Nat.blt q 77) (cond (Nat.beq q 76) (some (.iaload, 1)) none) (cond (Nat.beq q 77) (some (.iconst (-1), 1)) none)) (cond (Nat.blt q 81) (cond (Nat.beq q 78) (some (.if_icmp .eq 7, 3)) none) (cond (Nat.beq q 81) (some (.iconst 1, 1)) none))))))) (cond (Nat.blt q 136) (cond (Nat.blt q 109) (cond (Nat.blt q 95) (cond (Nat.blt q 88) (cond (Nat.blt q 85) (cond (Nat.beq q 82) (some (.goto 4, 3)) none) (cond (Nat.blt q 86) (cond (Nat.beq q 85) (some (.iconst 0, 1)) none) (cond (Nat.beq q 86) (some (.istore 7, 2)) none))) (cond (Nat.blt q 90) (cond (Nat.beq q 88) (some (.iload 6, 2)) none) (cond (Nat.blt q 93) (cond (Nat.beq q 90) (some (.ifCond .eq 27, 3)) none) (cond (Nat.beq q 93) (some (.iload 7, 2)) none)))) (cond (Nat.blt q 101) (cond (Nat.blt q 98) (cond (Nat.beq q 95) (some (.ifCond .eq 22, 3)) none) (cond (Nat.blt q 99) (cond (Nat.beq q 98) (some (.aload_n 0, 1)) none) (cond (Nat.beq q 99) (some (.iload 4, 2)) none))) (cond (Nat.blt q 103) (cond (Nat.beq q 101) (some (.iload 5, 2)) none) (cond (Nat.blt q 106) (cond (Nat.beq q 103) (some (.invokevirtual 210, 3)) none) (cond (Nat.beq q 106) (some (.ifCond .eq 7, 3)) none))))) (cond (Nat.blt q 122) (cond (Nat.blt q 114) (cond (Nat.blt q 110) (cond (Nat.beq q 109) (some (.iconst 0, 1)) none) (cond (Nat.blt q 113) (cond (Nat.beq q 110) (some (.goto 26, 3)) none) (cond (Nat.beq q 113) (some (.iconst 3, 1)) none))) (cond (Nat.blt q 117) (cond (Nat.beq q 114) (some (.goto 22, 3)) none) (cond (Nat.blt q 119) (cond (Nat.beq q 117) (some (.iload 7, 2)) none) (cond (Nat.beq q 119) (some (.ifCond .eq 7, 3)) none)))) (cond (Nat.blt q 128) (cond (Nat.blt q 123) (cond (Nat.beq q 122) (some (.iconst 1, 1)) none) (cond (Nat.blt q 126) (cond (Nat.beq q 123) (some (.goto 13, 3)) none) (cond (Nat.beq q 126) (some (.iload 6, 2)) none))) (cond (Nat.blt q 132) (cond (Nat.blt q 131) (cond (Nat.beq q 128) (some (.ifCond .eq 7, 3)) none) (cond (Nat.beq q 131) (some (.iconst 2, 1)) none)) (cond (Nat.blt q 135) (cond (Nat.beq q 132) (some (.goto 4, 3)) none) (cond (Nat.beq q 135) (some (.iconst 0, 1)) none)))))) (cond (Nat.blt q 161) (cond (Nat.blt q 148) (cond (Nat.blt q 143) (cond (Nat.blt q 138) (cond (Nat.beq q 136) (some (.istore 8, 2)) none) (cond (Nat.blt q 140) (cond (Nat.beq q 138) (some (.iload 8, 2)) none) (cond (Nat.beq q 140) (some (.ifCond .le 34, 3)) none))) (cond (Nat.blt q 144) (cond (Nat.beq q 143) (some (.aload_n 0, 1)) none) (cond (Nat.blt q 147) (cond (Nat.beq q 144) (some (.getfield 57, 3)) none) (cond (Nat.beq q 147) (some (.aload_n 0, 1)) none)))) (cond (Nat.blt q 153) (cond (Nat.blt q 151) (cond (Nat.beq q 148) (some (.getfield 204, 3)) none) (cond (Nat.blt q 152) (cond (Nat.beq q 151) (some (.iload_n 3, 1)) none) (cond (Nat.beq q 152) (some (.iastore, 1)) none))) (cond (Nat.blt q 157) (cond (Nat.blt q 154) (cond (Nat.beq q 153) (some (.aload_n 0, 1)) none) (cond (Nat.beq q 154) (some (.getfield 60, 3)) none)) (cond (Nat.blt q 158) (cond (Nat.beq q 157) (some (.aload_n 0, 1)) none) (cond (Nat.beq q 158) (some (.getfield 204, 3)) none))))) (cond (Nat.blt q 170) (cond (Nat.blt q 165) (cond (Nat.blt q 163) (cond (Nat.beq q 161) (some (.iload 8, 2)) none) (cond (Nat.blt q 164) (cond (Nat.beq q 163) (some (.iastore, 1)) none) (cond (Nat.beq q 164) (some (.aload_n 0, 1)) none))) (cond (Nat.blt q 166) (cond (Nat.beq q 165) (some (.dup, 1)) none) (cond (Nat.blt q 169) (cond (Nat.beq q 166) (some (.getfield 204, 3)) none) (cond (Nat.beq q 169) (some (.iconst 1, 1)) none)))) (cond (Nat.blt q 177) (cond (Nat.blt q 171) (cond (Nat.beq q 170) (some (.iadd, 1)) none) (cond (Nat.blt q 174) (cond (Nat.beq q 171) (some (.putfield 204, 3)) none) (cond (Nat.beq q 174) (some (.iinc 3 1, 3)) none))) (cond (Nat.blt q 181) (cond (Nat.blt q 180) (cond (Nat.beq q 177) (some (.goto (-147), 3)) none) (cond (Nat.beq q 180) (some (.aload_n 0, 1)) none)) (cond (Nat.blt q 184) (cond (Nat.beq q 181) (some (.getfield 204, 3)) none) (cond (Nat.beq q 184) (some (.ireturn, 1)) none)))))))) none
def s_M_differ (q : Nat) : Bool := Nat.beq q 16 || Nat.beq q 30 || Nat.beq q 68 || Nat.beq q 86 || Nat.beq q 117 || Nat.beq q 136 || Nat.beq q 174
noncomputable def C_M_differ : ZC := (k_M_differ, fl_M, fun q => cond (Nat.beq q 201) (some (2, 0, f_M_isRevision)) (cond (Nat.beq q 210) (some (3, 0, f_M_isAlike)) (none)), fun _ => none, fun _ _ => none, 1, 9)
noncomputable def f_M_differ : List ZV → ZT → Option ZR := zfn C_M_differ [20, 0, 0] [(2, 0), (2, 0), (2, 0), (2, 0), (2, 0), (2, 0)]
set_option maxRecDepth 20000 in
theorem kc_M_differ : zchk b_M_differ k_M_differ 185 = true := by decide +kernel
set_option maxRecDepth 20000 in
theorem kk_M_differ : zck k_M_differ 185 [201, 210] [] = true := by decide +kernel
set_option maxRecDepth 20000 in
theorem wl_M_differ : ∀ w ∈ ([.instanceMethod y_M_differ, .selects "RevisionWriteModel" y_M_differ y_M_differ, .code y_M_differ b_M_differ 9 (some .int), .initialized "RevisionWriteModel", .methodLink "RevisionWriteModel" 201 y_M_isRevision, .methodLink "RevisionWriteModel" 210 y_M_isAlike] : List Cond), w ∈ zTT := by decide +kernel
set_option maxRecDepth 20000 in
theorem zk_M_differ : ∀ pc, 185 ≤ pc → k_M_differ pc = none := fun pc h => by unfold k_M_differ; rw [zblt_f h]; rfl
set_option maxRecDepth 20000 in
theorem t_M_differ {E : ZE} (hV : zEV E) {l : Launch} (hfl : l.flags = flags0) : zMet E l y_M_differ (.code y_M_differ b_M_differ 9 (some .int)) 1 1 f_M_differ := zmet hV hfl (C := C_M_differ) (by decide +kernel) ⟨zcode_of (N := 185) kc_M_differ zk_M_differ, ff_M, (fun pc n ix ca hq hca => by
    have h9 := zck_v kk_M_differ (zk_M_differ) hq
    simp only [List.mem_cons, List.not_mem_nil, or_false] at h9
    rcases h9 with rfl | rfl
    · cases hca
      exact v_M_isRevision hV hfl (wl_M_differ _ (List.mem_of_getElem? (i := 4) rfl)) (by decide)
    · cases hca
      exact v_M_isAlike hV hfl (wl_M_differ _ (List.mem_of_getElem? (i := 5) rfl)) (by decide)), (fun pc n ix ca hq _ => absurd (zck_s kk_M_differ (zk_M_differ) hq) (by simp)), (fun pc x hx => by cases hx)⟩ zrt1 rfl rfl (by decide) (by decide) (fun _ _ => rfl)
set_option maxRecDepth 20000 in
theorem v_M_differ {E : ZE} (hV : zEV E) {l : Launch} (hfl : l.flags = flags0) {own : String} {ix d : Nat} (hl : Cond.methodLink own ix y_M_differ ∈ zTT) (hd : 1 < d) : zVirt E l own d ix 3 0 f_M_differ := ⟨y_M_differ, 20, 9, 1, 1, b_M_differ, (some .int), rfl, hl, (wl_M_differ _ (List.mem_of_getElem? (i := 0) rfl)), (wl_M_differ _ (List.mem_of_getElem? (i := 1) rfl)), (wl_M_differ _ (List.mem_of_getElem? (i := 2) rfl)), (wl_M_differ _ (List.mem_of_getElem? (i := 3) rfl)), by decide +kernel, zpar_of1 (by decide +kernel), by decide, hd, rfl, fun as σ r h => zfn_recv h, t_M_differ hV hfl⟩
abbrev b_M_row : ByteArray := prog_7_method_48_code
def y_M_row : MethodName := ⟨"RevisionWriteModel", "row", "(II)I"⟩
def k_M_row (q : Nat) : Option (Instr × Nat) := cond (Nat.blt q 68) (cond (Nat.blt q 34) (cond (Nat.blt q 17) (cond (Nat.blt q 8) (cond (Nat.blt q 2) (cond (Nat.blt q 1) (cond (Nat.beq q 0) (some (.aload_n 0, 1)) none) (cond (Nat.beq q 1) (some (.aload_n 0, 1)) none)) (cond (Nat.blt q 5) (cond (Nat.beq q 2) (some (.getfield 207, 3)) none) (cond (Nat.beq q 5) (some (.ifCond .eq 24, 3)) none))) (cond (Nat.blt q 12) (cond (Nat.blt q 9) (cond (Nat.beq q 8) (some (.iload_n 1, 1)) none) (cond (Nat.beq q 9) (some (.ifCond .lt 20, 3)) none)) (cond (Nat.blt q 13) (cond (Nat.beq q 12) (some (.iload_n 1, 1)) none) (cond (Nat.blt q 14) (cond (Nat.beq q 13) (some (.aload_n 0, 1)) none) (cond (Nat.beq q 14) (some (.getfield 204, 3)) none))))) (cond (Nat.blt q 25) (cond (Nat.blt q 21) (cond (Nat.blt q 20) (cond (Nat.beq q 17) (some (.if_icmp .ge 12, 3)) none) (cond (Nat.beq q 20) (some (.iload_n 2, 1)) none)) (cond (Nat.blt q 24) (cond (Nat.beq q 21) (some (.ifCond .lt 8, 3)) none) (cond (Nat.beq q 24) (some (.iload_n 2, 1)) none))) (cond (Nat.blt q 29) (cond (Nat.blt q 26) (cond (Nat.beq q 25) (some (.iconst 1, 1)) none) (cond (Nat.beq q 26) (some (.if_icmp .le 7, 3)) none)) (cond (Nat.blt q 30) (cond (Nat.beq q 29) (some (.iconst 1, 1)) none) (cond (Nat.blt q 33) (cond (Nat.beq q 30) (some (.goto 4, 3)) none) (cond (Nat.beq q 33) (some (.iconst 0, 1)) none)))))) (cond (Nat.blt q 53) (cond (Nat.blt q 44) (cond (Nat.blt q 38) (cond (Nat.blt q 37) (cond (Nat.beq q 34) (some (.putfield 63, 3)) none) (cond (Nat.beq q 37) (some (.aload_n 0, 1)) none)) (cond (Nat.blt q 41) (cond (Nat.beq q 38) (some (.getfield 63, 3)) none) (cond (Nat.beq q 41) (some (.ifCond .le 7, 3)) none))) (cond (Nat.blt q 48) (cond (Nat.blt q 45) (cond (Nat.beq q 44) (some (.iconst 0, 1)) none) (cond (Nat.beq q 45) (some (.goto 22, 3)) none)) (cond (Nat.blt q 49) (cond (Nat.beq q 48) (some (.iload_n 2, 1)) none) (cond (Nat.blt q 52) (cond (Nat.beq q 49) (some (.ifCond .ne 12, 3)) none) (cond (Nat.beq q 52) (some (.aload_n 0, 1)) none))))) (cond (Nat.blt q 61) (cond (Nat.blt q 57) (cond (Nat.blt q 56) (cond (Nat.beq q 53) (some (.getfield 57, 3)) none) (cond (Nat.beq q 56) (some (.iload_n 1, 1)) none)) (cond (Nat.blt q 58) (cond (Nat.beq q 57) (some (.iaload, 1)) none) (cond (Nat.beq q 58) (some (.goto 9, 3)) none))) (cond (Nat.blt q 65) (cond (Nat.blt q 62) (cond (Nat.beq q 61) (some (.aload_n 0, 1)) none) (cond (Nat.beq q 62) (some (.getfield 60, 3)) none)) (cond (Nat.blt q 66) (cond (Nat.beq q 65) (some (.iload_n 1, 1)) none) (cond (Nat.blt q 67) (cond (Nat.beq q 66) (some (.iaload, 1)) none) (cond (Nat.beq q 67) (some (.ireturn, 1)) none))))))) none
def s_M_row (q : Nat) : Bool := Nat.beq q 29 || Nat.beq q 34
noncomputable def C_M_row : ZC := (k_M_row, fl_M, fun _ => none, fun _ => none, fun _ _ => none, 1, 3)
noncomputable def f_M_row : List ZV → ZT → Option ZR := zfn C_M_row [20, 0, 0] []
set_option maxRecDepth 20000 in
theorem kc_M_row : zchk b_M_row k_M_row 68 = true := by decide +kernel
set_option maxRecDepth 20000 in
theorem wl_M_row : ∀ w ∈ ([.instanceMethod y_M_row, .selects "RevisionWriteModel" y_M_row y_M_row, .code y_M_row b_M_row 3 (some .int), .initialized "RevisionWriteModel"] : List Cond), w ∈ zTT := by decide +kernel
set_option maxRecDepth 20000 in
theorem zk_M_row : ∀ pc, 68 ≤ pc → k_M_row pc = none := fun pc h => by unfold k_M_row; rw [zblt_f h]; rfl
set_option maxRecDepth 20000 in
theorem t_M_row {E : ZE} (hV : zEV E) {l : Launch} (hfl : l.flags = flags0) : zMet E l y_M_row (.code y_M_row b_M_row 3 (some .int)) 0 1 f_M_row := zmet hV hfl (C := C_M_row) (by decide +kernel) ⟨zcode_of (N := 68) kc_M_row zk_M_row, ff_M, (fun pc n ix ca hq hca => by cases hca), (fun pc n ix ca hq hca => by cases hca), (fun pc x hx => by cases hx)⟩ zrt1 rfl rfl (by decide) (by decide) (fun _ _ => rfl)
set_option maxRecDepth 20000 in
theorem v_M_row {E : ZE} (hV : zEV E) {l : Launch} (hfl : l.flags = flags0) {own : String} {ix d : Nat} (hl : Cond.methodLink own ix y_M_row ∈ zTT) (hd : 0 < d) : zVirt E l own d ix 3 0 f_M_row := ⟨y_M_row, 20, 3, 0, 1, b_M_row, (some .int), rfl, hl, (wl_M_row _ (List.mem_of_getElem? (i := 0) rfl)), (wl_M_row _ (List.mem_of_getElem? (i := 1) rfl)), (wl_M_row _ (List.mem_of_getElem? (i := 2) rfl)), (wl_M_row _ (List.mem_of_getElem? (i := 3) rfl)), by decide +kernel, zpar_of1 (by decide +kernel), by decide, hd, rfl, fun as σ r h => zfn_recv h, t_M_row hV hfl⟩
abbrev b_M_told : ByteArray := prog_7_method_49_code
def y_M_told : MethodName := ⟨"RevisionWriteModel", "told", "(I)I"⟩
def k_M_told (q : Nat) : Option (Instr × Nat) := cond (Nat.blt q 104) (cond (Nat.blt q 49) (cond (Nat.blt q 21) (cond (Nat.blt q 9) (cond (Nat.blt q 5) (cond (Nat.blt q 1) (cond (Nat.beq q 0) (some (.aload_n 0, 1)) none) (cond (Nat.blt q 2) (cond (Nat.beq q 1) (some (.iconst 0, 1)) none) (cond (Nat.beq q 2) (some (.putfield 63, 3)) none))) (cond (Nat.blt q 7) (cond (Nat.blt q 6) (cond (Nat.beq q 5) (some (.iconst 0, 1)) none) (cond (Nat.beq q 6) (some (.istore_n 2, 1)) none)) (cond (Nat.blt q 8) (cond (Nat.beq q 7) (some (.iconst 1, 1)) none) (cond (Nat.beq q 8) (some (.istore_n 3, 1)) none)))) (cond (Nat.blt q 15) (cond (Nat.blt q 10) (cond (Nat.beq q 9) (some (.iload_n 3, 1)) none) (cond (Nat.blt q 12) (cond (Nat.beq q 10) (some (.bipush 40, 2)) none) (cond (Nat.beq q 12) (some (.if_icmp .gt 26, 3)) none))) (cond (Nat.blt q 19) (cond (Nat.blt q 16) (cond (Nat.beq q 15) (some (.aload_n 0, 1)) none) (cond (Nat.beq q 16) (some (.getfield 7, 3)) none)) (cond (Nat.blt q 20) (cond (Nat.beq q 19) (some (.iload_n 3, 1)) none) (cond (Nat.beq q 20) (some (.baload, 1)) none))))) (cond (Nat.blt q 32) (cond (Nat.blt q 26) (cond (Nat.blt q 24) (cond (Nat.beq q 21) (some (.ifCond .eq 9, 3)) none) (cond (Nat.blt q 25) (cond (Nat.beq q 24) (some (.iload_n 2, 1)) none) (cond (Nat.beq q 25) (some (.iconst 1, 1)) none))) (cond (Nat.blt q 30) (cond (Nat.blt q 27) (cond (Nat.beq q 26) (some (.iadd, 1)) none) (cond (Nat.beq q 27) (some (.goto 4, 3)) none)) (cond (Nat.blt q 31) (cond (Nat.beq q 30) (some (.iload_n 2, 1)) none) (cond (Nat.beq q 31) (some (.istore_n 2, 1)) none)))) (cond (Nat.blt q 39) (cond (Nat.blt q 35) (cond (Nat.beq q 32) (some (.iinc 3 1, 3)) none) (cond (Nat.blt q 38) (cond (Nat.beq q 35) (some (.goto (-26), 3)) none) (cond (Nat.beq q 38) (some (.iload_n 1, 1)) none))) (cond (Nat.blt q 43) (cond (Nat.blt q 42) (cond (Nat.beq q 39) (some (.ifCond .ne 10, 3)) none) (cond (Nat.beq q 42) (some (.aload_n 0, 1)) none)) (cond (Nat.blt q 46) (cond (Nat.beq q 43) (some (.getfield 116, 3)) none) (cond (Nat.beq q 46) (some (.goto 57, 3)) none)))))) (cond (Nat.blt q 75) (cond (Nat.blt q 62) (cond (Nat.blt q 54) (cond (Nat.blt q 50) (cond (Nat.beq q 49) (some (.iload_n 1, 1)) none) (cond (Nat.blt q 51) (cond (Nat.beq q 50) (some (.iconst 1, 1)) none) (cond (Nat.beq q 51) (some (.if_icmp .ne 10, 3)) none))) (cond (Nat.blt q 58) (cond (Nat.blt q 55) (cond (Nat.beq q 54) (some (.aload_n 0, 1)) none) (cond (Nat.beq q 55) (some (.getfield 110, 3)) none)) (cond (Nat.blt q 61) (cond (Nat.beq q 58) (some (.goto 45, 3)) none) (cond (Nat.beq q 61) (some (.iload_n 1, 1)) none)))) (cond (Nat.blt q 67) (cond (Nat.blt q 63) (cond (Nat.beq q 62) (some (.iconst 2, 1)) none) (cond (Nat.blt q 66) (cond (Nat.beq q 63) (some (.if_icmp .ne 7, 3)) none) (cond (Nat.beq q 66) (some (.iload_n 2, 1)) none))) (cond (Nat.blt q 71) (cond (Nat.blt q 70) (cond (Nat.beq q 67) (some (.goto 36, 3)) none) (cond (Nat.beq q 70) (some (.iload_n 1, 1)) none)) (cond (Nat.blt q 72) (cond (Nat.beq q 71) (some (.iconst 3, 1)) none) (cond (Nat.beq q 72) (some (.if_icmp .ne 10, 3)) none))))) (cond (Nat.blt q 88) (cond (Nat.blt q 82) (cond (Nat.blt q 76) (cond (Nat.beq q 75) (some (.aload_n 0, 1)) none) (cond (Nat.blt q 79) (cond (Nat.beq q 76) (some (.invokevirtual 137, 3)) none) (cond (Nat.beq q 79) (some (.goto 24, 3)) none))) (cond (Nat.blt q 84) (cond (Nat.blt q 83) (cond (Nat.beq q 82) (some (.iload_n 1, 1)) none) (cond (Nat.beq q 83) (some (.iconst 4, 1)) none)) (cond (Nat.blt q 87) (cond (Nat.beq q 84) (some (.if_icmp .ne 18, 3)) none) (cond (Nat.beq q 87) (some (.aload_n 0, 1)) none)))) (cond (Nat.blt q 98) (cond (Nat.blt q 94) (cond (Nat.blt q 91) (cond (Nat.beq q 88) (some (.getfield 123, 3)) none) (cond (Nat.beq q 91) (some (.ifCond .eq 7, 3)) none)) (cond (Nat.blt q 95) (cond (Nat.beq q 94) (some (.iconst 1, 1)) none) (cond (Nat.beq q 95) (some (.goto 8, 3)) none))) (cond (Nat.blt q 102) (cond (Nat.blt q 99) (cond (Nat.beq q 98) (some (.iconst 0, 1)) none) (cond (Nat.beq q 99) (some (.goto 4, 3)) none)) (cond (Nat.blt q 103) (cond (Nat.beq q 102) (some (.iconst (-1), 1)) none) (cond (Nat.beq q 103) (some (.ireturn, 1)) none))))))) none
def s_M_told (q : Nat) : Bool := Nat.beq q 9 || Nat.beq q 31
noncomputable def C_M_told : ZC := (k_M_told, fl_M, fun q => cond (Nat.beq q 137) (some (1, 0, f_M_changed)) (none), fun _ => none, fun _ _ => none, 1, 4)
noncomputable def f_M_told : List ZV → ZT → Option ZR := zfn C_M_told [20, 0] [(2, 0), (2, 0)]
set_option maxRecDepth 20000 in
theorem kc_M_told : zchk b_M_told k_M_told 104 = true := by decide +kernel
set_option maxRecDepth 20000 in
theorem kk_M_told : zck k_M_told 104 [137] [] = true := by decide +kernel
set_option maxRecDepth 20000 in
theorem wl_M_told : ∀ w ∈ ([.instanceMethod y_M_told, .selects "RevisionWriteModel" y_M_told y_M_told, .code y_M_told b_M_told 4 (some .int), .initialized "RevisionWriteModel", .methodLink "RevisionWriteModel" 137 y_M_changed] : List Cond), w ∈ zTT := by decide +kernel
set_option maxRecDepth 20000 in
theorem zk_M_told : ∀ pc, 104 ≤ pc → k_M_told pc = none := fun pc h => by unfold k_M_told; rw [zblt_f h]; rfl
set_option maxRecDepth 20000 in
theorem t_M_told {E : ZE} (hV : zEV E) {l : Launch} (hfl : l.flags = flags0) : zMet E l y_M_told (.code y_M_told b_M_told 4 (some .int)) 1 1 f_M_told := zmet hV hfl (C := C_M_told) (by decide +kernel) ⟨zcode_of (N := 104) kc_M_told zk_M_told, ff_M, (fun pc n ix ca hq hca => by
    have h9 := zck_v kk_M_told (zk_M_told) hq
    simp only [List.mem_cons, List.not_mem_nil, or_false] at h9
    rcases h9 with rfl
    · cases hca
      exact v_M_changed hV hfl (wl_M_told _ (List.mem_of_getElem? (i := 4) rfl)) (by decide)), (fun pc n ix ca hq _ => absurd (zck_s kk_M_told (zk_M_told) hq) (by simp)), (fun pc x hx => by cases hx)⟩ zrt1 rfl rfl (by decide) (by decide) (fun _ _ => rfl)
set_option maxRecDepth 20000 in
theorem v_M_told {E : ZE} (hV : zEV E) {l : Launch} (hfl : l.flags = flags0) {own : String} {ix d : Nat} (hl : Cond.methodLink own ix y_M_told ∈ zTT) (hd : 1 < d) : zVirt E l own d ix 2 0 f_M_told := ⟨y_M_told, 20, 4, 1, 1, b_M_told, (some .int), rfl, hl, (wl_M_told _ (List.mem_of_getElem? (i := 0) rfl)), (wl_M_told _ (List.mem_of_getElem? (i := 1) rfl)), (wl_M_told _ (List.mem_of_getElem? (i := 2) rfl)), (wl_M_told _ (List.mem_of_getElem? (i := 3) rfl)), by decide +kernel, zpar_of1 (by decide +kernel), by decide, hd, rfl, fun as σ r h => zfn_recv h, t_M_told hV hfl⟩
abbrev b_Z_object : ByteArray := method_3_code
def y_Z_object : MethodName := ⟨"RevisionWriteLaw", "object", "(LRevisionWrite;II)I"⟩
def k_Z_object (q : Nat) : Option (Instr × Nat) := cond (Nat.blt q 17) (cond (Nat.blt q 10) (cond (Nat.blt q 3) (cond (Nat.blt q 1) (cond (Nat.beq q 0) (some (.aload_n 0, 1)) none) (cond (Nat.blt q 2) (cond (Nat.beq q 1) (some (.iload_n 1, 1)) none) (cond (Nat.beq q 2) (some (.iload_n 2, 1)) none))) (cond (Nat.blt q 6) (cond (Nat.beq q 3) (some (.invokevirtual 7, 3)) none) (cond (Nat.blt q 9) (cond (Nat.beq q 6) (some (.goto 9, 3)) none) (cond (Nat.beq q 9) (some (.astore_n 3, 1)) none)))) (cond (Nat.blt q 13) (cond (Nat.blt q 11) (cond (Nat.beq q 10) (some (.iconst 1, 1)) none) (cond (Nat.blt q 12) (cond (Nat.beq q 11) (some (.ireturn, 1)) none) (cond (Nat.beq q 12) (some (.astore_n 3, 1)) none))) (cond (Nat.blt q 15) (cond (Nat.blt q 14) (cond (Nat.beq q 13) (some (.iconst 2, 1)) none) (cond (Nat.beq q 14) (some (.ireturn, 1)) none)) (cond (Nat.blt q 16) (cond (Nat.beq q 15) (some (.iconst 0, 1)) none) (cond (Nat.beq q 16) (some (.ireturn, 1)) none))))) none
def s_Z_object (q : Nat) : Bool := false
noncomputable def C_Z_object : ZC := (k_Z_object, fun _ => none, fun q => cond (Nat.beq q 7) (some (3, 2, f_W_object)) (none), fun _ => none, zhdl2 6 0 10 3 1 13 3, 1, 4)
noncomputable def f_Z_object : List ZV → ZT → Option ZR := zfn C_Z_object [4, 0, 0] [(2, 0)]
set_option maxRecDepth 20000 in
theorem kc_Z_object : zchk b_Z_object k_Z_object 17 = true := by decide +kernel
set_option maxRecDepth 20000 in
theorem kk_Z_object : zck k_Z_object 17 [7] [] = true := by decide +kernel
set_option maxRecDepth 20000 in
theorem wl_Z_object : ∀ w ∈ ([.static y_Z_object, .codeWith y_Z_object b_Z_object 4 (some .int) [(0, 6, 9, 13), (0, 6, 12, 15)], .initialized "RevisionWriteLaw", .methodLink "RevisionWriteLaw" 7 y_W_object, .classLink "RevisionWriteLaw" 13 (zexn 0), .classLink "RevisionWriteLaw" 15 (zexn 1)] : List Cond), w ∈ zTT := by decide +kernel
set_option maxRecDepth 20000 in
theorem zk_Z_object : ∀ pc, 17 ≤ pc → k_Z_object pc = none := fun pc h => by unfold k_Z_object; rw [zblt_f h]; rfl
set_option maxRecDepth 20000 in
theorem t_Z_object {E : ZE} (hV : zEV E) {l : Launch} (hfl : l.flags = flags0) : zMet E l y_Z_object (.codeWith y_Z_object b_Z_object 4 (some .int) [(0, 6, 9, 13), (0, 6, 12, 15)]) 3 1 f_Z_object := zmetW hV hfl (C := C_Z_object) (by decide +kernel) ⟨zcode_of (N := 17) kc_Z_object zk_Z_object, (fun ix k s h => by cases h), (fun pc n ix ca hq hca => by
    have h9 := zck_v kk_Z_object (zk_Z_object) hq
    simp only [List.mem_cons, List.not_mem_nil, or_false] at h9
    rcases h9 with rfl
    · cases hca
      exact v_W_object hV hfl (wl_Z_object _ (List.mem_of_getElem? (i := 3) rfl)) (by decide)), (fun pc n ix ca hq _ => absurd (zck_s kk_Z_object (zk_Z_object) hq) (by simp)), (fun pc x hx => by cases hx)⟩ zrt1 rfl rfl (by decide) (by decide) ⟨by decide, Or.inr ⟨_, _, _, _, _, _, _, _, _, _, _, rfl, rfl, by decide, by decide, by decide, by decide, by decide, (Or.inl ⟨3, rfl, rfl, rfl⟩), (Or.inl ⟨3, rfl, rfl, rfl⟩), (wl_Z_object _ (List.mem_of_getElem? (i := 4) rfl)), (wl_Z_object _ (List.mem_of_getElem? (i := 5) rfl))⟩⟩ (fun _ => rfl)
set_option maxRecDepth 20000 in
theorem v_Z_object {E : ZE} (hV : zEV E) {l : Launch} (hfl : l.flags = flags0) {own : String} {ix d : Nat} (hl : Cond.methodLink own ix y_Z_object ∈ zTT) (hd : 3 < d) : zStat E l own d ix 3 0 f_Z_object := ⟨y_Z_object, 4, 3, 1, b_Z_object, (some .int), .codeWith y_Z_object b_Z_object 4 (some .int) [(0, 6, 9, 13), (0, 6, 12, 15)], Or.inr ⟨_, rfl⟩, hl, (wl_Z_object _ (List.mem_of_getElem? (i := 0) rfl)), (wl_Z_object _ (List.mem_of_getElem? (i := 1) rfl)), (wl_Z_object _ (List.mem_of_getElem? (i := 2) rfl)), by decide +kernel, zpar_of (by decide +kernel), by decide, hd, rfl, t_Z_object hV hfl⟩
abbrev b_Z_octet : ByteArray := method_4_code
def y_Z_octet : MethodName := ⟨"RevisionWriteLaw", "octet", "(LRevisionWrite;IIB[J)I"⟩
def k_Z_octet (q : Nat) : Option (Instr × Nat) := cond (Nat.blt q 21) (cond (Nat.blt q 10) (cond (Nat.blt q 4) (cond (Nat.blt q 2) (cond (Nat.beq q 0) (some (.aload 4, 2)) none) (cond (Nat.blt q 3) (cond (Nat.beq q 2) (some (.iconst 0, 1)) none) (cond (Nat.beq q 3) (some (.aload_n 0, 1)) none))) (cond (Nat.blt q 6) (cond (Nat.blt q 5) (cond (Nat.beq q 4) (some (.iload_n 1, 1)) none) (cond (Nat.beq q 5) (some (.iload_n 2, 1)) none)) (cond (Nat.blt q 7) (cond (Nat.beq q 6) (some (.iload_n 3, 1)) none) (cond (Nat.beq q 7) (some (.invokevirtual 17, 3)) none)))) (cond (Nat.blt q 17) (cond (Nat.blt q 12) (cond (Nat.blt q 11) (cond (Nat.beq q 10) (some (.i2l, 1)) none) (cond (Nat.beq q 11) (some (.lastore, 1)) none)) (cond (Nat.blt q 15) (cond (Nat.beq q 12) (some (.goto 7, 3)) none) (cond (Nat.beq q 15) (some (.astore 5, 2)) none))) (cond (Nat.blt q 19) (cond (Nat.blt q 18) (cond (Nat.beq q 17) (some (.iconst 1, 1)) none) (cond (Nat.beq q 18) (some (.ireturn, 1)) none)) (cond (Nat.blt q 20) (cond (Nat.beq q 19) (some (.iconst 0, 1)) none) (cond (Nat.beq q 20) (some (.ireturn, 1)) none))))) none
def s_Z_octet (q : Nat) : Bool := false
noncomputable def C_Z_octet : ZC := (k_Z_octet, fun _ => none, fun q => cond (Nat.beq q 17) (some (4, 0, f_W_octet)) (none), fun _ => none, zhdl1 12 0 17 5, 1, 6)
noncomputable def f_Z_octet : List ZV → ZT → Option ZR := zfn C_Z_octet [4, 0, 0, 0, 18] [(2, 0)]
set_option maxRecDepth 20000 in
theorem kc_Z_octet : zchk b_Z_octet k_Z_octet 21 = true := by decide +kernel
set_option maxRecDepth 20000 in
theorem kk_Z_octet : zck k_Z_octet 21 [17] [] = true := by decide +kernel
set_option maxRecDepth 20000 in
theorem wl_Z_octet : ∀ w ∈ ([.static y_Z_octet, .codeWith y_Z_octet b_Z_octet 6 (some .int) [(0, 12, 15, 13)], .initialized "RevisionWriteLaw", .methodLink "RevisionWriteLaw" 17 y_W_octet, .classLink "RevisionWriteLaw" 13 (zexn 0)] : List Cond), w ∈ zTT := by decide +kernel
set_option maxRecDepth 20000 in
theorem zk_Z_octet : ∀ pc, 21 ≤ pc → k_Z_octet pc = none := fun pc h => by unfold k_Z_octet; rw [zblt_f h]; rfl
set_option maxRecDepth 20000 in
theorem t_Z_octet {E : ZE} (hV : zEV E) {l : Launch} (hfl : l.flags = flags0) : zMet E l y_Z_octet (.codeWith y_Z_octet b_Z_octet 6 (some .int) [(0, 12, 15, 13)]) 4 1 f_Z_octet := zmetW hV hfl (C := C_Z_octet) (by decide +kernel) ⟨zcode_of (N := 21) kc_Z_octet zk_Z_octet, (fun ix k s h => by cases h), (fun pc n ix ca hq hca => by
    have h9 := zck_v kk_Z_octet (zk_Z_octet) hq
    simp only [List.mem_cons, List.not_mem_nil, or_false] at h9
    rcases h9 with rfl
    · cases hca
      exact v_W_octet hV hfl (wl_Z_octet _ (List.mem_of_getElem? (i := 3) rfl)) (by decide)), (fun pc n ix ca hq _ => absurd (zck_s kk_Z_octet (zk_Z_octet) hq) (by simp)), (fun pc x hx => by cases hx)⟩ zrt1 rfl rfl (by decide) (by decide) ⟨by decide, Or.inl ⟨_, _, _, _, _, _, rfl, rfl, by decide, by decide, (Or.inr ⟨rfl, rfl⟩), (wl_Z_octet _ (List.mem_of_getElem? (i := 4) rfl))⟩⟩ (fun _ => rfl)
set_option maxRecDepth 20000 in
theorem v_Z_octet {E : ZE} (hV : zEV E) {l : Launch} (hfl : l.flags = flags0) {own : String} {ix d : Nat} (hl : Cond.methodLink own ix y_Z_octet ∈ zTT) (hd : 4 < d) : zStat E l own d ix 5 0 f_Z_octet := ⟨y_Z_octet, 6, 4, 1, b_Z_octet, (some .int), .codeWith y_Z_octet b_Z_octet 6 (some .int) [(0, 12, 15, 13)], Or.inr ⟨_, rfl⟩, hl, (wl_Z_octet _ (List.mem_of_getElem? (i := 0) rfl)), (wl_Z_octet _ (List.mem_of_getElem? (i := 1) rfl)), (wl_Z_octet _ (List.mem_of_getElem? (i := 2) rfl)), by decide +kernel, zpar_of (by decide +kernel), by decide, hd, rfl, t_Z_octet hV hfl⟩
abbrev b_Z_drop : ByteArray := method_5_code
def y_Z_drop : MethodName := ⟨"RevisionWriteLaw", "drop", "(LRevisionWrite;I[J)I"⟩
def k_Z_drop (q : Nat) : Option (Instr × Nat) := cond (Nat.blt q 24) (cond (Nat.blt q 14) (cond (Nat.blt q 4) (cond (Nat.blt q 2) (cond (Nat.blt q 1) (cond (Nat.beq q 0) (some (.aload_n 2, 1)) none) (cond (Nat.beq q 1) (some (.iconst 0, 1)) none)) (cond (Nat.blt q 3) (cond (Nat.beq q 2) (some (.aload_n 0, 1)) none) (cond (Nat.beq q 3) (some (.iload_n 1, 1)) none))) (cond (Nat.blt q 10) (cond (Nat.blt q 7) (cond (Nat.beq q 4) (some (.invokevirtual 21, 3)) none) (cond (Nat.beq q 7) (some (.ifCond .eq 7, 3)) none)) (cond (Nat.blt q 11) (cond (Nat.beq q 10) (some (.lconst 1, 1)) none) (cond (Nat.beq q 11) (some (.goto 4, 3)) none)))) (cond (Nat.blt q 20) (cond (Nat.blt q 16) (cond (Nat.blt q 15) (cond (Nat.beq q 14) (some (.lconst 0, 1)) none) (cond (Nat.beq q 15) (some (.lastore, 1)) none)) (cond (Nat.blt q 19) (cond (Nat.beq q 16) (some (.goto 6, 3)) none) (cond (Nat.beq q 19) (some (.astore_n 3, 1)) none))) (cond (Nat.blt q 22) (cond (Nat.blt q 21) (cond (Nat.beq q 20) (some (.iconst 1, 1)) none) (cond (Nat.beq q 21) (some (.ireturn, 1)) none)) (cond (Nat.blt q 23) (cond (Nat.beq q 22) (some (.iconst 0, 1)) none) (cond (Nat.beq q 23) (some (.ireturn, 1)) none))))) none
def s_Z_drop (q : Nat) : Bool := Nat.beq q 15
noncomputable def C_Z_drop : ZC := (k_Z_drop, fun _ => none, fun q => cond (Nat.beq q 21) (some (2, 0, f_W_drop)) (none), fun _ => none, zhdl1 16 0 20 3, 1, 4)
noncomputable def f_Z_drop : List ZV → ZT → Option ZR := zfn C_Z_drop [4, 0, 18] [(2, 0)]
set_option maxRecDepth 20000 in
theorem kc_Z_drop : zchk b_Z_drop k_Z_drop 24 = true := by decide +kernel
set_option maxRecDepth 20000 in
theorem kk_Z_drop : zck k_Z_drop 24 [21] [] = true := by decide +kernel
set_option maxRecDepth 20000 in
theorem wl_Z_drop : ∀ w ∈ ([.static y_Z_drop, .codeWith y_Z_drop b_Z_drop 4 (some .int) [(0, 16, 19, 13)], .initialized "RevisionWriteLaw", .methodLink "RevisionWriteLaw" 21 y_W_drop, .classLink "RevisionWriteLaw" 13 (zexn 0)] : List Cond), w ∈ zTT := by decide +kernel
set_option maxRecDepth 20000 in
theorem zk_Z_drop : ∀ pc, 24 ≤ pc → k_Z_drop pc = none := fun pc h => by unfold k_Z_drop; rw [zblt_f h]; rfl
set_option maxRecDepth 20000 in
theorem t_Z_drop {E : ZE} (hV : zEV E) {l : Launch} (hfl : l.flags = flags0) : zMet E l y_Z_drop (.codeWith y_Z_drop b_Z_drop 4 (some .int) [(0, 16, 19, 13)]) 3 1 f_Z_drop := zmetW hV hfl (C := C_Z_drop) (by decide +kernel) ⟨zcode_of (N := 24) kc_Z_drop zk_Z_drop, (fun ix k s h => by cases h), (fun pc n ix ca hq hca => by
    have h9 := zck_v kk_Z_drop (zk_Z_drop) hq
    simp only [List.mem_cons, List.not_mem_nil, or_false] at h9
    rcases h9 with rfl
    · cases hca
      exact v_W_drop hV hfl (wl_Z_drop _ (List.mem_of_getElem? (i := 3) rfl)) (by decide)), (fun pc n ix ca hq _ => absurd (zck_s kk_Z_drop (zk_Z_drop) hq) (by simp)), (fun pc x hx => by cases hx)⟩ zrt1 rfl rfl (by decide) (by decide) ⟨by decide, Or.inl ⟨_, _, _, _, _, _, rfl, rfl, by decide, by decide, (Or.inl ⟨3, rfl, rfl, rfl⟩), (wl_Z_drop _ (List.mem_of_getElem? (i := 4) rfl))⟩⟩ (fun _ => rfl)
set_option maxRecDepth 20000 in
theorem v_Z_drop {E : ZE} (hV : zEV E) {l : Launch} (hfl : l.flags = flags0) {own : String} {ix d : Nat} (hl : Cond.methodLink own ix y_Z_drop ∈ zTT) (hd : 3 < d) : zStat E l own d ix 3 0 f_Z_drop := ⟨y_Z_drop, 4, 3, 1, b_Z_drop, (some .int), .codeWith y_Z_drop b_Z_drop 4 (some .int) [(0, 16, 19, 13)], Or.inr ⟨_, rfl⟩, hl, (wl_Z_drop _ (List.mem_of_getElem? (i := 0) rfl)), (wl_Z_drop _ (List.mem_of_getElem? (i := 1) rfl)), (wl_Z_drop _ (List.mem_of_getElem? (i := 2) rfl)), by decide +kernel, zpar_of (by decide +kernel), by decide, hd, rfl, t_Z_drop hV hfl⟩
abbrev b_Z_first : ByteArray := method_6_code
def y_Z_first : MethodName := ⟨"RevisionWriteLaw", "first", "(LRevisionWrite;IZ[J)I"⟩
def k_Z_first (q : Nat) : Option (Instr × Nat) := cond (Nat.blt q 26) (cond (Nat.blt q 12) (cond (Nat.blt q 4) (cond (Nat.blt q 2) (cond (Nat.blt q 1) (cond (Nat.beq q 0) (some (.aload_n 3, 1)) none) (cond (Nat.beq q 1) (some (.iconst 0, 1)) none)) (cond (Nat.blt q 3) (cond (Nat.beq q 2) (some (.aload_n 0, 1)) none) (cond (Nat.beq q 3) (some (.iload_n 1, 1)) none))) (cond (Nat.blt q 8) (cond (Nat.blt q 5) (cond (Nat.beq q 4) (some (.iload_n 2, 1)) none) (cond (Nat.beq q 5) (some (.invokevirtual 25, 3)) none)) (cond (Nat.blt q 11) (cond (Nat.beq q 8) (some (.ifCond .eq 7, 3)) none) (cond (Nat.beq q 11) (some (.lconst 1, 1)) none)))) (cond (Nat.blt q 20) (cond (Nat.blt q 16) (cond (Nat.blt q 15) (cond (Nat.beq q 12) (some (.goto 4, 3)) none) (cond (Nat.beq q 15) (some (.lconst 0, 1)) none)) (cond (Nat.blt q 17) (cond (Nat.beq q 16) (some (.lastore, 1)) none) (cond (Nat.beq q 17) (some (.goto 7, 3)) none))) (cond (Nat.blt q 23) (cond (Nat.blt q 22) (cond (Nat.beq q 20) (some (.astore 4, 2)) none) (cond (Nat.beq q 22) (some (.iconst 1, 1)) none)) (cond (Nat.blt q 24) (cond (Nat.beq q 23) (some (.ireturn, 1)) none) (cond (Nat.blt q 25) (cond (Nat.beq q 24) (some (.iconst 0, 1)) none) (cond (Nat.beq q 25) (some (.ireturn, 1)) none)))))) none
def s_Z_first (q : Nat) : Bool := Nat.beq q 16
noncomputable def C_Z_first : ZC := (k_Z_first, fun _ => none, fun q => cond (Nat.beq q 25) (some (3, 0, f_W_first)) (none), fun _ => none, zhdl1 17 0 22 4, 1, 5)
noncomputable def f_Z_first : List ZV → ZT → Option ZR := zfn C_Z_first [4, 0, 0, 18] [(2, 0)]
set_option maxRecDepth 20000 in
theorem kc_Z_first : zchk b_Z_first k_Z_first 26 = true := by decide +kernel
set_option maxRecDepth 20000 in
theorem kk_Z_first : zck k_Z_first 26 [25] [] = true := by decide +kernel
set_option maxRecDepth 20000 in
theorem wl_Z_first : ∀ w ∈ ([.static y_Z_first, .codeWith y_Z_first b_Z_first 5 (some .int) [(0, 17, 20, 13)], .initialized "RevisionWriteLaw", .methodLink "RevisionWriteLaw" 25 y_W_first, .classLink "RevisionWriteLaw" 13 (zexn 0)] : List Cond), w ∈ zTT := by decide +kernel
set_option maxRecDepth 20000 in
theorem zk_Z_first : ∀ pc, 26 ≤ pc → k_Z_first pc = none := fun pc h => by unfold k_Z_first; rw [zblt_f h]; rfl
set_option maxRecDepth 20000 in
theorem t_Z_first {E : ZE} (hV : zEV E) {l : Launch} (hfl : l.flags = flags0) : zMet E l y_Z_first (.codeWith y_Z_first b_Z_first 5 (some .int) [(0, 17, 20, 13)]) 4 1 f_Z_first := zmetW hV hfl (C := C_Z_first) (by decide +kernel) ⟨zcode_of (N := 26) kc_Z_first zk_Z_first, (fun ix k s h => by cases h), (fun pc n ix ca hq hca => by
    have h9 := zck_v kk_Z_first (zk_Z_first) hq
    simp only [List.mem_cons, List.not_mem_nil, or_false] at h9
    rcases h9 with rfl
    · cases hca
      exact v_W_first hV hfl (wl_Z_first _ (List.mem_of_getElem? (i := 3) rfl)) (by decide)), (fun pc n ix ca hq _ => absurd (zck_s kk_Z_first (zk_Z_first) hq) (by simp)), (fun pc x hx => by cases hx)⟩ zrt1 rfl rfl (by decide) (by decide) ⟨by decide, Or.inl ⟨_, _, _, _, _, _, rfl, rfl, by decide, by decide, (Or.inr ⟨rfl, rfl⟩), (wl_Z_first _ (List.mem_of_getElem? (i := 4) rfl))⟩⟩ (fun _ => rfl)
set_option maxRecDepth 20000 in
theorem v_Z_first {E : ZE} (hV : zEV E) {l : Launch} (hfl : l.flags = flags0) {own : String} {ix d : Nat} (hl : Cond.methodLink own ix y_Z_first ∈ zTT) (hd : 4 < d) : zStat E l own d ix 4 0 f_Z_first := ⟨y_Z_first, 5, 4, 1, b_Z_first, (some .int), .codeWith y_Z_first b_Z_first 5 (some .int) [(0, 17, 20, 13)], Or.inr ⟨_, rfl⟩, hl, (wl_Z_first _ (List.mem_of_getElem? (i := 0) rfl)), (wl_Z_first _ (List.mem_of_getElem? (i := 1) rfl)), (wl_Z_first _ (List.mem_of_getElem? (i := 2) rfl)), by decide +kernel, zpar_of (by decide +kernel), by decide, hd, rfl, t_Z_first hV hfl⟩
abbrev b_Z_write : ByteArray := method_7_code
def y_Z_write : MethodName := ⟨"RevisionWriteLaw", "write", "(LRevisionWrite;I[J)I"⟩
def k_Z_write (q : Nat) : Option (Instr × Nat) := cond (Nat.blt q 20) (cond (Nat.blt q 12) (cond (Nat.blt q 4) (cond (Nat.blt q 2) (cond (Nat.blt q 1) (cond (Nat.beq q 0) (some (.aload_n 2, 1)) none) (cond (Nat.beq q 1) (some (.iconst 0, 1)) none)) (cond (Nat.blt q 3) (cond (Nat.beq q 2) (some (.aload_n 0, 1)) none) (cond (Nat.beq q 3) (some (.iload_n 1, 1)) none))) (cond (Nat.blt q 8) (cond (Nat.blt q 7) (cond (Nat.beq q 4) (some (.invokevirtual 29, 3)) none) (cond (Nat.beq q 7) (some (.i2l, 1)) none)) (cond (Nat.blt q 9) (cond (Nat.beq q 8) (some (.lastore, 1)) none) (cond (Nat.beq q 9) (some (.goto 9, 3)) none)))) (cond (Nat.blt q 16) (cond (Nat.blt q 14) (cond (Nat.blt q 13) (cond (Nat.beq q 12) (some (.astore_n 3, 1)) none) (cond (Nat.beq q 13) (some (.iconst 1, 1)) none)) (cond (Nat.blt q 15) (cond (Nat.beq q 14) (some (.ireturn, 1)) none) (cond (Nat.beq q 15) (some (.astore_n 3, 1)) none))) (cond (Nat.blt q 18) (cond (Nat.blt q 17) (cond (Nat.beq q 16) (some (.iconst 2, 1)) none) (cond (Nat.beq q 17) (some (.ireturn, 1)) none)) (cond (Nat.blt q 19) (cond (Nat.beq q 18) (some (.iconst 0, 1)) none) (cond (Nat.beq q 19) (some (.ireturn, 1)) none))))) none
def s_Z_write (q : Nat) : Bool := false
noncomputable def C_Z_write : ZC := (k_Z_write, fun _ => none, fun q => cond (Nat.beq q 29) (some (2, 0, f_W_write)) (none), fun _ => none, zhdl2 9 1 13 3 2 16 3, 1, 4)
noncomputable def f_Z_write : List ZV → ZT → Option ZR := zfn C_Z_write [4, 0, 18] [(2, 0)]
set_option maxRecDepth 20000 in
theorem kc_Z_write : zchk b_Z_write k_Z_write 20 = true := by decide +kernel
set_option maxRecDepth 20000 in
theorem kk_Z_write : zck k_Z_write 20 [29] [] = true := by decide +kernel
set_option maxRecDepth 20000 in
theorem wl_Z_write : ∀ w ∈ ([.static y_Z_write, .codeWith y_Z_write b_Z_write 4 (some .int) [(0, 9, 12, 15), (0, 9, 15, 33)], .initialized "RevisionWriteLaw", .methodLink "RevisionWriteLaw" 29 y_W_write, .classLink "RevisionWriteLaw" 15 (zexn 1), .classLink "RevisionWriteLaw" 33 (zexn 2)] : List Cond), w ∈ zTT := by decide +kernel
set_option maxRecDepth 20000 in
theorem zk_Z_write : ∀ pc, 20 ≤ pc → k_Z_write pc = none := fun pc h => by unfold k_Z_write; rw [zblt_f h]; rfl
set_option maxRecDepth 20000 in
theorem t_Z_write {E : ZE} (hV : zEV E) {l : Launch} (hfl : l.flags = flags0) : zMet E l y_Z_write (.codeWith y_Z_write b_Z_write 4 (some .int) [(0, 9, 12, 15), (0, 9, 15, 33)]) 12 1 f_Z_write := zmetW hV hfl (C := C_Z_write) (by decide +kernel) ⟨zcode_of (N := 20) kc_Z_write zk_Z_write, (fun ix k s h => by cases h), (fun pc n ix ca hq hca => by
    have h9 := zck_v kk_Z_write (zk_Z_write) hq
    simp only [List.mem_cons, List.not_mem_nil, or_false] at h9
    rcases h9 with rfl
    · cases hca
      exact v_W_write hV hfl (wl_Z_write _ (List.mem_of_getElem? (i := 3) rfl)) (by decide)), (fun pc n ix ca hq _ => absurd (zck_s kk_Z_write (zk_Z_write) hq) (by simp)), (fun pc x hx => by cases hx)⟩ zrt1 rfl rfl (by decide) (by decide) ⟨by decide, Or.inr ⟨_, _, _, _, _, _, _, _, _, _, _, rfl, rfl, by decide, by decide, by decide, by decide, by decide, (Or.inl ⟨3, rfl, rfl, rfl⟩), (Or.inl ⟨3, rfl, rfl, rfl⟩), (wl_Z_write _ (List.mem_of_getElem? (i := 4) rfl)), (wl_Z_write _ (List.mem_of_getElem? (i := 5) rfl))⟩⟩ (fun _ => rfl)
set_option maxRecDepth 20000 in
theorem v_Z_write {E : ZE} (hV : zEV E) {l : Launch} (hfl : l.flags = flags0) {own : String} {ix d : Nat} (hl : Cond.methodLink own ix y_Z_write ∈ zTT) (hd : 12 < d) : zStat E l own d ix 3 0 f_Z_write := ⟨y_Z_write, 4, 12, 1, b_Z_write, (some .int), .codeWith y_Z_write b_Z_write 4 (some .int) [(0, 9, 12, 15), (0, 9, 15, 33)], Or.inr ⟨_, rfl⟩, hl, (wl_Z_write _ (List.mem_of_getElem? (i := 0) rfl)), (wl_Z_write _ (List.mem_of_getElem? (i := 1) rfl)), (wl_Z_write _ (List.mem_of_getElem? (i := 2) rfl)), by decide +kernel, zpar_of (by decide +kernel), by decide, hd, rfl, t_Z_write hV hfl⟩
abbrev b_Z_append : ByteArray := method_8_code
def y_Z_append : MethodName := ⟨"RevisionWriteLaw", "append", "(LRevisionWrite;[J)I"⟩
def k_Z_append (q : Nat) : Option (Instr × Nat) := cond (Nat.blt q 19) (cond (Nat.blt q 11) (cond (Nat.blt q 3) (cond (Nat.blt q 1) (cond (Nat.beq q 0) (some (.aload_n 1, 1)) none) (cond (Nat.blt q 2) (cond (Nat.beq q 1) (some (.iconst 0, 1)) none) (cond (Nat.beq q 2) (some (.aload_n 0, 1)) none))) (cond (Nat.blt q 7) (cond (Nat.blt q 6) (cond (Nat.beq q 3) (some (.invokevirtual 35, 3)) none) (cond (Nat.beq q 6) (some (.i2l, 1)) none)) (cond (Nat.blt q 8) (cond (Nat.beq q 7) (some (.lastore, 1)) none) (cond (Nat.beq q 8) (some (.goto 9, 3)) none)))) (cond (Nat.blt q 15) (cond (Nat.blt q 13) (cond (Nat.blt q 12) (cond (Nat.beq q 11) (some (.astore_n 2, 1)) none) (cond (Nat.beq q 12) (some (.iconst 1, 1)) none)) (cond (Nat.blt q 14) (cond (Nat.beq q 13) (some (.ireturn, 1)) none) (cond (Nat.beq q 14) (some (.astore_n 2, 1)) none))) (cond (Nat.blt q 17) (cond (Nat.blt q 16) (cond (Nat.beq q 15) (some (.iconst 2, 1)) none) (cond (Nat.beq q 16) (some (.ireturn, 1)) none)) (cond (Nat.blt q 18) (cond (Nat.beq q 17) (some (.iconst 0, 1)) none) (cond (Nat.beq q 18) (some (.ireturn, 1)) none))))) none
def s_Z_append (q : Nat) : Bool := false
noncomputable def C_Z_append : ZC := (k_Z_append, fun _ => none, fun q => cond (Nat.beq q 35) (some (1, 0, f_W_append)) (none), fun _ => none, zhdl2 8 3 12 2 2 15 2, 1, 3)
noncomputable def f_Z_append : List ZV → ZT → Option ZR := zfn C_Z_append [4, 18] [(2, 0)]
set_option maxRecDepth 20000 in
theorem kc_Z_append : zchk b_Z_append k_Z_append 19 = true := by decide +kernel
set_option maxRecDepth 20000 in
theorem kk_Z_append : zck k_Z_append 19 [35] [] = true := by decide +kernel
set_option maxRecDepth 20000 in
theorem wl_Z_append : ∀ w ∈ ([.static y_Z_append, .codeWith y_Z_append b_Z_append 3 (some .int) [(0, 8, 11, 39), (0, 8, 14, 33)], .initialized "RevisionWriteLaw", .methodLink "RevisionWriteLaw" 35 y_W_append, .classLink "RevisionWriteLaw" 39 (zexn 3), .classLink "RevisionWriteLaw" 33 (zexn 2)] : List Cond), w ∈ zTT := by decide +kernel
set_option maxRecDepth 20000 in
theorem zk_Z_append : ∀ pc, 19 ≤ pc → k_Z_append pc = none := fun pc h => by unfold k_Z_append; rw [zblt_f h]; rfl
set_option maxRecDepth 20000 in
theorem t_Z_append {E : ZE} (hV : zEV E) {l : Launch} (hfl : l.flags = flags0) : zMet E l y_Z_append (.codeWith y_Z_append b_Z_append 3 (some .int) [(0, 8, 11, 39), (0, 8, 14, 33)]) 12 1 f_Z_append := zmetW hV hfl (C := C_Z_append) (by decide +kernel) ⟨zcode_of (N := 19) kc_Z_append zk_Z_append, (fun ix k s h => by cases h), (fun pc n ix ca hq hca => by
    have h9 := zck_v kk_Z_append (zk_Z_append) hq
    simp only [List.mem_cons, List.not_mem_nil, or_false] at h9
    rcases h9 with rfl
    · cases hca
      exact v_W_append hV hfl (wl_Z_append _ (List.mem_of_getElem? (i := 3) rfl)) (by decide)), (fun pc n ix ca hq _ => absurd (zck_s kk_Z_append (zk_Z_append) hq) (by simp)), (fun pc x hx => by cases hx)⟩ zrt1 rfl rfl (by decide) (by decide) ⟨by decide, Or.inr ⟨_, _, _, _, _, _, _, _, _, _, _, rfl, rfl, by decide, by decide, by decide, by decide, by decide, (Or.inl ⟨2, rfl, rfl, rfl⟩), (Or.inl ⟨2, rfl, rfl, rfl⟩), (wl_Z_append _ (List.mem_of_getElem? (i := 4) rfl)), (wl_Z_append _ (List.mem_of_getElem? (i := 5) rfl))⟩⟩ (fun _ => rfl)
set_option maxRecDepth 20000 in
theorem v_Z_append {E : ZE} (hV : zEV E) {l : Launch} (hfl : l.flags = flags0) {own : String} {ix d : Nat} (hl : Cond.methodLink own ix y_Z_append ∈ zTT) (hd : 12 < d) : zStat E l own d ix 2 0 f_Z_append := ⟨y_Z_append, 3, 12, 1, b_Z_append, (some .int), .codeWith y_Z_append b_Z_append 3 (some .int) [(0, 8, 11, 39), (0, 8, 14, 33)], Or.inr ⟨_, rfl⟩, hl, (wl_Z_append _ (List.mem_of_getElem? (i := 0) rfl)), (wl_Z_append _ (List.mem_of_getElem? (i := 1) rfl)), (wl_Z_append _ (List.mem_of_getElem? (i := 2) rfl)), by decide +kernel, zpar_of (by decide +kernel), by decide, hd, rfl, t_Z_append hV hfl⟩
abbrev b_Z_poke : ByteArray := method_9_code
def y_Z_poke : MethodName := ⟨"RevisionWriteLaw", "poke", "(LRevisionWrite;IB[J)I"⟩
def k_Z_poke (q : Nat) : Option (Instr × Nat) := cond (Nat.blt q 19) (cond (Nat.blt q 9) (cond (Nat.blt q 3) (cond (Nat.blt q 1) (cond (Nat.beq q 0) (some (.aload_n 3, 1)) none) (cond (Nat.blt q 2) (cond (Nat.beq q 1) (some (.iconst 0, 1)) none) (cond (Nat.beq q 2) (some (.aload_n 0, 1)) none))) (cond (Nat.blt q 5) (cond (Nat.blt q 4) (cond (Nat.beq q 3) (some (.iload_n 1, 1)) none) (cond (Nat.beq q 4) (some (.iload_n 2, 1)) none)) (cond (Nat.blt q 8) (cond (Nat.beq q 5) (some (.invokevirtual 41, 3)) none) (cond (Nat.beq q 8) (some (.i2l, 1)) none)))) (cond (Nat.blt q 15) (cond (Nat.blt q 10) (cond (Nat.beq q 9) (some (.lastore, 1)) none) (cond (Nat.blt q 13) (cond (Nat.beq q 10) (some (.goto 7, 3)) none) (cond (Nat.beq q 13) (some (.astore 4, 2)) none))) (cond (Nat.blt q 17) (cond (Nat.blt q 16) (cond (Nat.beq q 15) (some (.iconst 1, 1)) none) (cond (Nat.beq q 16) (some (.ireturn, 1)) none)) (cond (Nat.blt q 18) (cond (Nat.beq q 17) (some (.iconst 0, 1)) none) (cond (Nat.beq q 18) (some (.ireturn, 1)) none))))) none
def s_Z_poke (q : Nat) : Bool := false
noncomputable def C_Z_poke : ZC := (k_Z_poke, fun _ => none, fun q => cond (Nat.beq q 41) (some (3, 0, f_W_poke)) (none), fun _ => none, zhdl1 10 0 15 4, 1, 5)
noncomputable def f_Z_poke : List ZV → ZT → Option ZR := zfn C_Z_poke [4, 0, 0, 18] [(2, 0)]
set_option maxRecDepth 20000 in
theorem kc_Z_poke : zchk b_Z_poke k_Z_poke 19 = true := by decide +kernel
set_option maxRecDepth 20000 in
theorem kk_Z_poke : zck k_Z_poke 19 [41] [] = true := by decide +kernel
set_option maxRecDepth 20000 in
theorem wl_Z_poke : ∀ w ∈ ([.static y_Z_poke, .codeWith y_Z_poke b_Z_poke 5 (some .int) [(0, 10, 13, 13)], .initialized "RevisionWriteLaw", .methodLink "RevisionWriteLaw" 41 y_W_poke, .classLink "RevisionWriteLaw" 13 (zexn 0)] : List Cond), w ∈ zTT := by decide +kernel
set_option maxRecDepth 20000 in
theorem zk_Z_poke : ∀ pc, 19 ≤ pc → k_Z_poke pc = none := fun pc h => by unfold k_Z_poke; rw [zblt_f h]; rfl
set_option maxRecDepth 20000 in
theorem t_Z_poke {E : ZE} (hV : zEV E) {l : Launch} (hfl : l.flags = flags0) : zMet E l y_Z_poke (.codeWith y_Z_poke b_Z_poke 5 (some .int) [(0, 10, 13, 13)]) 3 1 f_Z_poke := zmetW hV hfl (C := C_Z_poke) (by decide +kernel) ⟨zcode_of (N := 19) kc_Z_poke zk_Z_poke, (fun ix k s h => by cases h), (fun pc n ix ca hq hca => by
    have h9 := zck_v kk_Z_poke (zk_Z_poke) hq
    simp only [List.mem_cons, List.not_mem_nil, or_false] at h9
    rcases h9 with rfl
    · cases hca
      exact v_W_poke hV hfl (wl_Z_poke _ (List.mem_of_getElem? (i := 3) rfl)) (by decide)), (fun pc n ix ca hq _ => absurd (zck_s kk_Z_poke (zk_Z_poke) hq) (by simp)), (fun pc x hx => by cases hx)⟩ zrt1 rfl rfl (by decide) (by decide) ⟨by decide, Or.inl ⟨_, _, _, _, _, _, rfl, rfl, by decide, by decide, (Or.inr ⟨rfl, rfl⟩), (wl_Z_poke _ (List.mem_of_getElem? (i := 4) rfl))⟩⟩ (fun _ => rfl)
set_option maxRecDepth 20000 in
theorem v_Z_poke {E : ZE} (hV : zEV E) {l : Launch} (hfl : l.flags = flags0) {own : String} {ix d : Nat} (hl : Cond.methodLink own ix y_Z_poke ∈ zTT) (hd : 3 < d) : zStat E l own d ix 4 0 f_Z_poke := ⟨y_Z_poke, 5, 3, 1, b_Z_poke, (some .int), .codeWith y_Z_poke b_Z_poke 5 (some .int) [(0, 10, 13, 13)], Or.inr ⟨_, rfl⟩, hl, (wl_Z_poke _ (List.mem_of_getElem? (i := 0) rfl)), (wl_Z_poke _ (List.mem_of_getElem? (i := 1) rfl)), (wl_Z_poke _ (List.mem_of_getElem? (i := 2) rfl)), by decide +kernel, zpar_of (by decide +kernel), by decide, hd, rfl, t_Z_poke hV hfl⟩
abbrev b_Z_take : ByteArray := method_10_code
def y_Z_take : MethodName := ⟨"RevisionWriteLaw", "take", "(LRevisionWrite;I[J)I"⟩
def k_Z_take (q : Nat) : Option (Instr × Nat) := cond (Nat.blt q 17) (cond (Nat.blt q 8) (cond (Nat.blt q 3) (cond (Nat.blt q 1) (cond (Nat.beq q 0) (some (.aload_n 2, 1)) none) (cond (Nat.blt q 2) (cond (Nat.beq q 1) (some (.iconst 0, 1)) none) (cond (Nat.beq q 2) (some (.aload_n 0, 1)) none))) (cond (Nat.blt q 4) (cond (Nat.beq q 3) (some (.iload_n 1, 1)) none) (cond (Nat.blt q 7) (cond (Nat.beq q 4) (some (.invokevirtual 45, 3)) none) (cond (Nat.beq q 7) (some (.i2l, 1)) none)))) (cond (Nat.blt q 13) (cond (Nat.blt q 9) (cond (Nat.beq q 8) (some (.lastore, 1)) none) (cond (Nat.blt q 12) (cond (Nat.beq q 9) (some (.goto 6, 3)) none) (cond (Nat.beq q 12) (some (.astore_n 3, 1)) none))) (cond (Nat.blt q 15) (cond (Nat.blt q 14) (cond (Nat.beq q 13) (some (.iconst 1, 1)) none) (cond (Nat.beq q 14) (some (.ireturn, 1)) none)) (cond (Nat.blt q 16) (cond (Nat.beq q 15) (some (.iconst 0, 1)) none) (cond (Nat.beq q 16) (some (.ireturn, 1)) none))))) none
def s_Z_take (q : Nat) : Bool := false
noncomputable def C_Z_take : ZC := (k_Z_take, fun _ => none, fun q => cond (Nat.beq q 45) (some (2, 0, f_W_take)) (none), fun _ => none, zhdl1 9 0 13 3, 1, 4)
noncomputable def f_Z_take : List ZV → ZT → Option ZR := zfn C_Z_take [4, 0, 18] [(2, 0)]
set_option maxRecDepth 20000 in
theorem kc_Z_take : zchk b_Z_take k_Z_take 17 = true := by decide +kernel
set_option maxRecDepth 20000 in
theorem kk_Z_take : zck k_Z_take 17 [45] [] = true := by decide +kernel
set_option maxRecDepth 20000 in
theorem wl_Z_take : ∀ w ∈ ([.static y_Z_take, .codeWith y_Z_take b_Z_take 4 (some .int) [(0, 9, 12, 13)], .initialized "RevisionWriteLaw", .methodLink "RevisionWriteLaw" 45 y_W_take, .classLink "RevisionWriteLaw" 13 (zexn 0)] : List Cond), w ∈ zTT := by decide +kernel
set_option maxRecDepth 20000 in
theorem zk_Z_take : ∀ pc, 17 ≤ pc → k_Z_take pc = none := fun pc h => by unfold k_Z_take; rw [zblt_f h]; rfl
set_option maxRecDepth 20000 in
theorem t_Z_take {E : ZE} (hV : zEV E) {l : Launch} (hfl : l.flags = flags0) : zMet E l y_Z_take (.codeWith y_Z_take b_Z_take 4 (some .int) [(0, 9, 12, 13)]) 9 1 f_Z_take := zmetW hV hfl (C := C_Z_take) (by decide +kernel) ⟨zcode_of (N := 17) kc_Z_take zk_Z_take, (fun ix k s h => by cases h), (fun pc n ix ca hq hca => by
    have h9 := zck_v kk_Z_take (zk_Z_take) hq
    simp only [List.mem_cons, List.not_mem_nil, or_false] at h9
    rcases h9 with rfl
    · cases hca
      exact v_W_take hV hfl (wl_Z_take _ (List.mem_of_getElem? (i := 3) rfl)) (by decide)), (fun pc n ix ca hq _ => absurd (zck_s kk_Z_take (zk_Z_take) hq) (by simp)), (fun pc x hx => by cases hx)⟩ zrt1 rfl rfl (by decide) (by decide) ⟨by decide, Or.inl ⟨_, _, _, _, _, _, rfl, rfl, by decide, by decide, (Or.inl ⟨3, rfl, rfl, rfl⟩), (wl_Z_take _ (List.mem_of_getElem? (i := 4) rfl))⟩⟩ (fun _ => rfl)
set_option maxRecDepth 20000 in
theorem v_Z_take {E : ZE} (hV : zEV E) {l : Launch} (hfl : l.flags = flags0) {own : String} {ix d : Nat} (hl : Cond.methodLink own ix y_Z_take ∈ zTT) (hd : 9 < d) : zStat E l own d ix 3 0 f_Z_take := ⟨y_Z_take, 4, 9, 1, b_Z_take, (some .int), .codeWith y_Z_take b_Z_take 4 (some .int) [(0, 9, 12, 13)], Or.inr ⟨_, rfl⟩, hl, (wl_Z_take _ (List.mem_of_getElem? (i := 0) rfl)), (wl_Z_take _ (List.mem_of_getElem? (i := 1) rfl)), (wl_Z_take _ (List.mem_of_getElem? (i := 2) rfl)), by decide +kernel, zpar_of (by decide +kernel), by decide, hd, rfl, t_Z_take hV hfl⟩
abbrev b_Z_at : ByteArray := method_11_code
def y_Z_at : MethodName := ⟨"RevisionWriteLaw", "at", "(LRevisionWrite;I[J)I"⟩
def k_Z_at (q : Nat) : Option (Instr × Nat) := cond (Nat.blt q 17) (cond (Nat.blt q 8) (cond (Nat.blt q 3) (cond (Nat.blt q 1) (cond (Nat.beq q 0) (some (.aload_n 2, 1)) none) (cond (Nat.blt q 2) (cond (Nat.beq q 1) (some (.iconst 0, 1)) none) (cond (Nat.beq q 2) (some (.aload_n 0, 1)) none))) (cond (Nat.blt q 4) (cond (Nat.beq q 3) (some (.iload_n 1, 1)) none) (cond (Nat.blt q 7) (cond (Nat.beq q 4) (some (.invokevirtual 48, 3)) none) (cond (Nat.beq q 7) (some (.i2l, 1)) none)))) (cond (Nat.blt q 13) (cond (Nat.blt q 9) (cond (Nat.beq q 8) (some (.lastore, 1)) none) (cond (Nat.blt q 12) (cond (Nat.beq q 9) (some (.goto 6, 3)) none) (cond (Nat.beq q 12) (some (.astore_n 3, 1)) none))) (cond (Nat.blt q 15) (cond (Nat.blt q 14) (cond (Nat.beq q 13) (some (.iconst 1, 1)) none) (cond (Nat.beq q 14) (some (.ireturn, 1)) none)) (cond (Nat.blt q 16) (cond (Nat.beq q 15) (some (.iconst 0, 1)) none) (cond (Nat.beq q 16) (some (.ireturn, 1)) none))))) none
def s_Z_at (q : Nat) : Bool := false
noncomputable def C_Z_at : ZC := (k_Z_at, fun _ => none, fun q => cond (Nat.beq q 48) (some (2, 0, f_W_at)) (none), fun _ => none, zhdl1 9 0 13 3, 1, 4)
noncomputable def f_Z_at : List ZV → ZT → Option ZR := zfn C_Z_at [4, 0, 18] [(2, 0)]
set_option maxRecDepth 20000 in
theorem kc_Z_at : zchk b_Z_at k_Z_at 17 = true := by decide +kernel
set_option maxRecDepth 20000 in
theorem kk_Z_at : zck k_Z_at 17 [48] [] = true := by decide +kernel
set_option maxRecDepth 20000 in
theorem wl_Z_at : ∀ w ∈ ([.static y_Z_at, .codeWith y_Z_at b_Z_at 4 (some .int) [(0, 9, 12, 13)], .initialized "RevisionWriteLaw", .methodLink "RevisionWriteLaw" 48 y_W_at, .classLink "RevisionWriteLaw" 13 (zexn 0)] : List Cond), w ∈ zTT := by decide +kernel
set_option maxRecDepth 20000 in
theorem zk_Z_at : ∀ pc, 17 ≤ pc → k_Z_at pc = none := fun pc h => by unfold k_Z_at; rw [zblt_f h]; rfl
set_option maxRecDepth 20000 in
theorem t_Z_at {E : ZE} (hV : zEV E) {l : Launch} (hfl : l.flags = flags0) : zMet E l y_Z_at (.codeWith y_Z_at b_Z_at 4 (some .int) [(0, 9, 12, 13)]) 2 1 f_Z_at := zmetW hV hfl (C := C_Z_at) (by decide +kernel) ⟨zcode_of (N := 17) kc_Z_at zk_Z_at, (fun ix k s h => by cases h), (fun pc n ix ca hq hca => by
    have h9 := zck_v kk_Z_at (zk_Z_at) hq
    simp only [List.mem_cons, List.not_mem_nil, or_false] at h9
    rcases h9 with rfl
    · cases hca
      exact v_W_at hV hfl (wl_Z_at _ (List.mem_of_getElem? (i := 3) rfl)) (by decide)), (fun pc n ix ca hq _ => absurd (zck_s kk_Z_at (zk_Z_at) hq) (by simp)), (fun pc x hx => by cases hx)⟩ zrt1 rfl rfl (by decide) (by decide) ⟨by decide, Or.inl ⟨_, _, _, _, _, _, rfl, rfl, by decide, by decide, (Or.inl ⟨3, rfl, rfl, rfl⟩), (wl_Z_at _ (List.mem_of_getElem? (i := 4) rfl))⟩⟩ (fun _ => rfl)
set_option maxRecDepth 20000 in
theorem v_Z_at {E : ZE} (hV : zEV E) {l : Launch} (hfl : l.flags = flags0) {own : String} {ix d : Nat} (hl : Cond.methodLink own ix y_Z_at ∈ zTT) (hd : 2 < d) : zStat E l own d ix 3 0 f_Z_at := ⟨y_Z_at, 4, 2, 1, b_Z_at, (some .int), .codeWith y_Z_at b_Z_at 4 (some .int) [(0, 9, 12, 13)], Or.inr ⟨_, rfl⟩, hl, (wl_Z_at _ (List.mem_of_getElem? (i := 0) rfl)), (wl_Z_at _ (List.mem_of_getElem? (i := 1) rfl)), (wl_Z_at _ (List.mem_of_getElem? (i := 2) rfl)), by decide +kernel, zpar_of (by decide +kernel), by decide, hd, rfl, t_Z_at hV hfl⟩
abbrev b_Z_length : ByteArray := method_12_code
def y_Z_length : MethodName := ⟨"RevisionWriteLaw", "length", "(LRevisionWrite;I[J)I"⟩
def k_Z_length (q : Nat) : Option (Instr × Nat) := cond (Nat.blt q 17) (cond (Nat.blt q 8) (cond (Nat.blt q 3) (cond (Nat.blt q 1) (cond (Nat.beq q 0) (some (.aload_n 2, 1)) none) (cond (Nat.blt q 2) (cond (Nat.beq q 1) (some (.iconst 0, 1)) none) (cond (Nat.beq q 2) (some (.aload_n 0, 1)) none))) (cond (Nat.blt q 4) (cond (Nat.beq q 3) (some (.iload_n 1, 1)) none) (cond (Nat.blt q 7) (cond (Nat.beq q 4) (some (.invokevirtual 52, 3)) none) (cond (Nat.beq q 7) (some (.i2l, 1)) none)))) (cond (Nat.blt q 13) (cond (Nat.blt q 9) (cond (Nat.beq q 8) (some (.lastore, 1)) none) (cond (Nat.blt q 12) (cond (Nat.beq q 9) (some (.goto 6, 3)) none) (cond (Nat.beq q 12) (some (.astore_n 3, 1)) none))) (cond (Nat.blt q 15) (cond (Nat.blt q 14) (cond (Nat.beq q 13) (some (.iconst 1, 1)) none) (cond (Nat.beq q 14) (some (.ireturn, 1)) none)) (cond (Nat.blt q 16) (cond (Nat.beq q 15) (some (.iconst 0, 1)) none) (cond (Nat.beq q 16) (some (.ireturn, 1)) none))))) none
def s_Z_length (q : Nat) : Bool := false
noncomputable def C_Z_length : ZC := (k_Z_length, fun _ => none, fun q => cond (Nat.beq q 52) (some (2, 0, f_W_length)) (none), fun _ => none, zhdl1 9 0 13 3, 1, 4)
noncomputable def f_Z_length : List ZV → ZT → Option ZR := zfn C_Z_length [4, 0, 18] [(2, 0)]
set_option maxRecDepth 20000 in
theorem kc_Z_length : zchk b_Z_length k_Z_length 17 = true := by decide +kernel
set_option maxRecDepth 20000 in
theorem kk_Z_length : zck k_Z_length 17 [52] [] = true := by decide +kernel
set_option maxRecDepth 20000 in
theorem wl_Z_length : ∀ w ∈ ([.static y_Z_length, .codeWith y_Z_length b_Z_length 4 (some .int) [(0, 9, 12, 13)], .initialized "RevisionWriteLaw", .methodLink "RevisionWriteLaw" 52 y_W_length, .classLink "RevisionWriteLaw" 13 (zexn 0)] : List Cond), w ∈ zTT := by decide +kernel
set_option maxRecDepth 20000 in
theorem zk_Z_length : ∀ pc, 17 ≤ pc → k_Z_length pc = none := fun pc h => by unfold k_Z_length; rw [zblt_f h]; rfl
set_option maxRecDepth 20000 in
theorem t_Z_length {E : ZE} (hV : zEV E) {l : Launch} (hfl : l.flags = flags0) : zMet E l y_Z_length (.codeWith y_Z_length b_Z_length 4 (some .int) [(0, 9, 12, 13)]) 3 1 f_Z_length := zmetW hV hfl (C := C_Z_length) (by decide +kernel) ⟨zcode_of (N := 17) kc_Z_length zk_Z_length, (fun ix k s h => by cases h), (fun pc n ix ca hq hca => by
    have h9 := zck_v kk_Z_length (zk_Z_length) hq
    simp only [List.mem_cons, List.not_mem_nil, or_false] at h9
    rcases h9 with rfl
    · cases hca
      exact v_W_length hV hfl (wl_Z_length _ (List.mem_of_getElem? (i := 3) rfl)) (by decide)), (fun pc n ix ca hq _ => absurd (zck_s kk_Z_length (zk_Z_length) hq) (by simp)), (fun pc x hx => by cases hx)⟩ zrt1 rfl rfl (by decide) (by decide) ⟨by decide, Or.inl ⟨_, _, _, _, _, _, rfl, rfl, by decide, by decide, (Or.inl ⟨3, rfl, rfl, rfl⟩), (wl_Z_length _ (List.mem_of_getElem? (i := 4) rfl))⟩⟩ (fun _ => rfl)
set_option maxRecDepth 20000 in
theorem v_Z_length {E : ZE} (hV : zEV E) {l : Launch} (hfl : l.flags = flags0) {own : String} {ix d : Nat} (hl : Cond.methodLink own ix y_Z_length ∈ zTT) (hd : 3 < d) : zStat E l own d ix 3 0 f_Z_length := ⟨y_Z_length, 4, 3, 1, b_Z_length, (some .int), .codeWith y_Z_length b_Z_length 4 (some .int) [(0, 9, 12, 13)], Or.inr ⟨_, rfl⟩, hl, (wl_Z_length _ (List.mem_of_getElem? (i := 0) rfl)), (wl_Z_length _ (List.mem_of_getElem? (i := 1) rfl)), (wl_Z_length _ (List.mem_of_getElem? (i := 2) rfl)), by decide +kernel, zpar_of (by decide +kernel), by decide, hd, rfl, t_Z_length hV hfl⟩
abbrev b_Z_byteOf : ByteArray := method_13_code
def y_Z_byteOf : MethodName := ⟨"RevisionWriteLaw", "byteOf", "(LRevisionWrite;II[J)I"⟩
def k_Z_byteOf (q : Nat) : Option (Instr × Nat) := cond (Nat.blt q 19) (cond (Nat.blt q 9) (cond (Nat.blt q 3) (cond (Nat.blt q 1) (cond (Nat.beq q 0) (some (.aload_n 3, 1)) none) (cond (Nat.blt q 2) (cond (Nat.beq q 1) (some (.iconst 0, 1)) none) (cond (Nat.beq q 2) (some (.aload_n 0, 1)) none))) (cond (Nat.blt q 5) (cond (Nat.blt q 4) (cond (Nat.beq q 3) (some (.iload_n 1, 1)) none) (cond (Nat.beq q 4) (some (.iload_n 2, 1)) none)) (cond (Nat.blt q 8) (cond (Nat.beq q 5) (some (.invokevirtual 55, 3)) none) (cond (Nat.beq q 8) (some (.i2l, 1)) none)))) (cond (Nat.blt q 15) (cond (Nat.blt q 10) (cond (Nat.beq q 9) (some (.lastore, 1)) none) (cond (Nat.blt q 13) (cond (Nat.beq q 10) (some (.goto 7, 3)) none) (cond (Nat.beq q 13) (some (.astore 4, 2)) none))) (cond (Nat.blt q 17) (cond (Nat.blt q 16) (cond (Nat.beq q 15) (some (.iconst 1, 1)) none) (cond (Nat.beq q 16) (some (.ireturn, 1)) none)) (cond (Nat.blt q 18) (cond (Nat.beq q 17) (some (.iconst 0, 1)) none) (cond (Nat.beq q 18) (some (.ireturn, 1)) none))))) none
def s_Z_byteOf (q : Nat) : Bool := false
noncomputable def C_Z_byteOf : ZC := (k_Z_byteOf, fun _ => none, fun q => cond (Nat.beq q 55) (some (3, 0, f_W_byteOf)) (none), fun _ => none, zhdl1 10 0 15 4, 1, 5)
noncomputable def f_Z_byteOf : List ZV → ZT → Option ZR := zfn C_Z_byteOf [4, 0, 0, 18] [(2, 0)]
set_option maxRecDepth 20000 in
theorem kc_Z_byteOf : zchk b_Z_byteOf k_Z_byteOf 19 = true := by decide +kernel
set_option maxRecDepth 20000 in
theorem kk_Z_byteOf : zck k_Z_byteOf 19 [55] [] = true := by decide +kernel
set_option maxRecDepth 20000 in
theorem wl_Z_byteOf : ∀ w ∈ ([.static y_Z_byteOf, .codeWith y_Z_byteOf b_Z_byteOf 5 (some .int) [(0, 10, 13, 13)], .initialized "RevisionWriteLaw", .methodLink "RevisionWriteLaw" 55 y_W_byteOf, .classLink "RevisionWriteLaw" 13 (zexn 0)] : List Cond), w ∈ zTT := by decide +kernel
set_option maxRecDepth 20000 in
theorem zk_Z_byteOf : ∀ pc, 19 ≤ pc → k_Z_byteOf pc = none := fun pc h => by unfold k_Z_byteOf; rw [zblt_f h]; rfl
set_option maxRecDepth 20000 in
theorem t_Z_byteOf {E : ZE} (hV : zEV E) {l : Launch} (hfl : l.flags = flags0) : zMet E l y_Z_byteOf (.codeWith y_Z_byteOf b_Z_byteOf 5 (some .int) [(0, 10, 13, 13)]) 4 1 f_Z_byteOf := zmetW hV hfl (C := C_Z_byteOf) (by decide +kernel) ⟨zcode_of (N := 19) kc_Z_byteOf zk_Z_byteOf, (fun ix k s h => by cases h), (fun pc n ix ca hq hca => by
    have h9 := zck_v kk_Z_byteOf (zk_Z_byteOf) hq
    simp only [List.mem_cons, List.not_mem_nil, or_false] at h9
    rcases h9 with rfl
    · cases hca
      exact v_W_byteOf hV hfl (wl_Z_byteOf _ (List.mem_of_getElem? (i := 3) rfl)) (by decide)), (fun pc n ix ca hq _ => absurd (zck_s kk_Z_byteOf (zk_Z_byteOf) hq) (by simp)), (fun pc x hx => by cases hx)⟩ zrt1 rfl rfl (by decide) (by decide) ⟨by decide, Or.inl ⟨_, _, _, _, _, _, rfl, rfl, by decide, by decide, (Or.inr ⟨rfl, rfl⟩), (wl_Z_byteOf _ (List.mem_of_getElem? (i := 4) rfl))⟩⟩ (fun _ => rfl)
set_option maxRecDepth 20000 in
theorem v_Z_byteOf {E : ZE} (hV : zEV E) {l : Launch} (hfl : l.flags = flags0) {own : String} {ix d : Nat} (hl : Cond.methodLink own ix y_Z_byteOf ∈ zTT) (hd : 4 < d) : zStat E l own d ix 4 0 f_Z_byteOf := ⟨y_Z_byteOf, 5, 4, 1, b_Z_byteOf, (some .int), .codeWith y_Z_byteOf b_Z_byteOf 5 (some .int) [(0, 10, 13, 13)], Or.inr ⟨_, rfl⟩, hl, (wl_Z_byteOf _ (List.mem_of_getElem? (i := 0) rfl)), (wl_Z_byteOf _ (List.mem_of_getElem? (i := 1) rfl)), (wl_Z_byteOf _ (List.mem_of_getElem? (i := 2) rfl)), by decide +kernel, zpar_of (by decide +kernel), by decide, hd, rfl, t_Z_byteOf hV hfl⟩
abbrev b_Z_size : ByteArray := method_14_code
def y_Z_size : MethodName := ⟨"RevisionWriteLaw", "size", "(LRevisionWrite;I[J)I"⟩
def k_Z_size (q : Nat) : Option (Instr × Nat) := cond (Nat.blt q 17) (cond (Nat.blt q 8) (cond (Nat.blt q 3) (cond (Nat.blt q 1) (cond (Nat.beq q 0) (some (.aload_n 2, 1)) none) (cond (Nat.blt q 2) (cond (Nat.beq q 1) (some (.iconst 0, 1)) none) (cond (Nat.beq q 2) (some (.aload_n 0, 1)) none))) (cond (Nat.blt q 4) (cond (Nat.beq q 3) (some (.iload_n 1, 1)) none) (cond (Nat.blt q 7) (cond (Nat.beq q 4) (some (.invokevirtual 59, 3)) none) (cond (Nat.beq q 7) (some (.i2l, 1)) none)))) (cond (Nat.blt q 13) (cond (Nat.blt q 9) (cond (Nat.beq q 8) (some (.lastore, 1)) none) (cond (Nat.blt q 12) (cond (Nat.beq q 9) (some (.goto 6, 3)) none) (cond (Nat.beq q 12) (some (.astore_n 3, 1)) none))) (cond (Nat.blt q 15) (cond (Nat.blt q 14) (cond (Nat.beq q 13) (some (.iconst 1, 1)) none) (cond (Nat.beq q 14) (some (.ireturn, 1)) none)) (cond (Nat.blt q 16) (cond (Nat.beq q 15) (some (.iconst 0, 1)) none) (cond (Nat.beq q 16) (some (.ireturn, 1)) none))))) none
def s_Z_size (q : Nat) : Bool := false
noncomputable def C_Z_size : ZC := (k_Z_size, fun _ => none, fun q => cond (Nat.beq q 59) (some (2, 0, f_W_size)) (none), fun _ => none, zhdl1 9 0 13 3, 1, 4)
noncomputable def f_Z_size : List ZV → ZT → Option ZR := zfn C_Z_size [4, 0, 18] [(2, 0)]
set_option maxRecDepth 20000 in
theorem kc_Z_size : zchk b_Z_size k_Z_size 17 = true := by decide +kernel
set_option maxRecDepth 20000 in
theorem kk_Z_size : zck k_Z_size 17 [59] [] = true := by decide +kernel
set_option maxRecDepth 20000 in
theorem wl_Z_size : ∀ w ∈ ([.static y_Z_size, .codeWith y_Z_size b_Z_size 4 (some .int) [(0, 9, 12, 13)], .initialized "RevisionWriteLaw", .methodLink "RevisionWriteLaw" 59 y_W_size, .classLink "RevisionWriteLaw" 13 (zexn 0)] : List Cond), w ∈ zTT := by decide +kernel
set_option maxRecDepth 20000 in
theorem zk_Z_size : ∀ pc, 17 ≤ pc → k_Z_size pc = none := fun pc h => by unfold k_Z_size; rw [zblt_f h]; rfl
set_option maxRecDepth 20000 in
theorem t_Z_size {E : ZE} (hV : zEV E) {l : Launch} (hfl : l.flags = flags0) : zMet E l y_Z_size (.codeWith y_Z_size b_Z_size 4 (some .int) [(0, 9, 12, 13)]) 3 1 f_Z_size := zmetW hV hfl (C := C_Z_size) (by decide +kernel) ⟨zcode_of (N := 17) kc_Z_size zk_Z_size, (fun ix k s h => by cases h), (fun pc n ix ca hq hca => by
    have h9 := zck_v kk_Z_size (zk_Z_size) hq
    simp only [List.mem_cons, List.not_mem_nil, or_false] at h9
    rcases h9 with rfl
    · cases hca
      exact v_W_size hV hfl (wl_Z_size _ (List.mem_of_getElem? (i := 3) rfl)) (by decide)), (fun pc n ix ca hq _ => absurd (zck_s kk_Z_size (zk_Z_size) hq) (by simp)), (fun pc x hx => by cases hx)⟩ zrt1 rfl rfl (by decide) (by decide) ⟨by decide, Or.inl ⟨_, _, _, _, _, _, rfl, rfl, by decide, by decide, (Or.inl ⟨3, rfl, rfl, rfl⟩), (wl_Z_size _ (List.mem_of_getElem? (i := 4) rfl))⟩⟩ (fun _ => rfl)
set_option maxRecDepth 20000 in
theorem v_Z_size {E : ZE} (hV : zEV E) {l : Launch} (hfl : l.flags = flags0) {own : String} {ix d : Nat} (hl : Cond.methodLink own ix y_Z_size ∈ zTT) (hd : 3 < d) : zStat E l own d ix 3 0 f_Z_size := ⟨y_Z_size, 4, 3, 1, b_Z_size, (some .int), .codeWith y_Z_size b_Z_size 4 (some .int) [(0, 9, 12, 13)], Or.inr ⟨_, rfl⟩, hl, (wl_Z_size _ (List.mem_of_getElem? (i := 0) rfl)), (wl_Z_size _ (List.mem_of_getElem? (i := 1) rfl)), (wl_Z_size _ (List.mem_of_getElem? (i := 2) rfl)), by decide +kernel, zpar_of (by decide +kernel), by decide, hd, rfl, t_Z_size hV hfl⟩
abbrev b_Z_place : ByteArray := method_15_code
def y_Z_place : MethodName := ⟨"RevisionWriteLaw", "place", "(LRevisionWrite;II[J)I"⟩
def k_Z_place (q : Nat) : Option (Instr × Nat) := cond (Nat.blt q 19) (cond (Nat.blt q 9) (cond (Nat.blt q 3) (cond (Nat.blt q 1) (cond (Nat.beq q 0) (some (.aload_n 3, 1)) none) (cond (Nat.blt q 2) (cond (Nat.beq q 1) (some (.iconst 0, 1)) none) (cond (Nat.beq q 2) (some (.aload_n 0, 1)) none))) (cond (Nat.blt q 5) (cond (Nat.blt q 4) (cond (Nat.beq q 3) (some (.iload_n 1, 1)) none) (cond (Nat.beq q 4) (some (.iload_n 2, 1)) none)) (cond (Nat.blt q 8) (cond (Nat.beq q 5) (some (.invokevirtual 62, 3)) none) (cond (Nat.beq q 8) (some (.i2l, 1)) none)))) (cond (Nat.blt q 15) (cond (Nat.blt q 10) (cond (Nat.beq q 9) (some (.lastore, 1)) none) (cond (Nat.blt q 13) (cond (Nat.beq q 10) (some (.goto 7, 3)) none) (cond (Nat.beq q 13) (some (.astore 4, 2)) none))) (cond (Nat.blt q 17) (cond (Nat.blt q 16) (cond (Nat.beq q 15) (some (.iconst 1, 1)) none) (cond (Nat.beq q 16) (some (.ireturn, 1)) none)) (cond (Nat.blt q 18) (cond (Nat.beq q 17) (some (.iconst 0, 1)) none) (cond (Nat.beq q 18) (some (.ireturn, 1)) none))))) none
def s_Z_place (q : Nat) : Bool := false
noncomputable def C_Z_place : ZC := (k_Z_place, fun _ => none, fun q => cond (Nat.beq q 62) (some (3, 0, f_W_place)) (none), fun _ => none, zhdl1 10 0 15 4, 1, 5)
noncomputable def f_Z_place : List ZV → ZT → Option ZR := zfn C_Z_place [4, 0, 0, 18] [(2, 0)]
set_option maxRecDepth 20000 in
theorem kc_Z_place : zchk b_Z_place k_Z_place 19 = true := by decide +kernel
set_option maxRecDepth 20000 in
theorem kk_Z_place : zck k_Z_place 19 [62] [] = true := by decide +kernel
set_option maxRecDepth 20000 in
theorem wl_Z_place : ∀ w ∈ ([.static y_Z_place, .codeWith y_Z_place b_Z_place 5 (some .int) [(0, 10, 13, 13)], .initialized "RevisionWriteLaw", .methodLink "RevisionWriteLaw" 62 y_W_place, .classLink "RevisionWriteLaw" 13 (zexn 0)] : List Cond), w ∈ zTT := by decide +kernel
set_option maxRecDepth 20000 in
theorem zk_Z_place : ∀ pc, 19 ≤ pc → k_Z_place pc = none := fun pc h => by unfold k_Z_place; rw [zblt_f h]; rfl
set_option maxRecDepth 20000 in
theorem t_Z_place {E : ZE} (hV : zEV E) {l : Launch} (hfl : l.flags = flags0) : zMet E l y_Z_place (.codeWith y_Z_place b_Z_place 5 (some .int) [(0, 10, 13, 13)]) 3 1 f_Z_place := zmetW hV hfl (C := C_Z_place) (by decide +kernel) ⟨zcode_of (N := 19) kc_Z_place zk_Z_place, (fun ix k s h => by cases h), (fun pc n ix ca hq hca => by
    have h9 := zck_v kk_Z_place (zk_Z_place) hq
    simp only [List.mem_cons, List.not_mem_nil, or_false] at h9
    rcases h9 with rfl
    · cases hca
      exact v_W_place hV hfl (wl_Z_place _ (List.mem_of_getElem? (i := 3) rfl)) (by decide)), (fun pc n ix ca hq _ => absurd (zck_s kk_Z_place (zk_Z_place) hq) (by simp)), (fun pc x hx => by cases hx)⟩ zrt1 rfl rfl (by decide) (by decide) ⟨by decide, Or.inl ⟨_, _, _, _, _, _, rfl, rfl, by decide, by decide, (Or.inr ⟨rfl, rfl⟩), (wl_Z_place _ (List.mem_of_getElem? (i := 4) rfl))⟩⟩ (fun _ => rfl)
set_option maxRecDepth 20000 in
theorem v_Z_place {E : ZE} (hV : zEV E) {l : Launch} (hfl : l.flags = flags0) {own : String} {ix d : Nat} (hl : Cond.methodLink own ix y_Z_place ∈ zTT) (hd : 3 < d) : zStat E l own d ix 4 0 f_Z_place := ⟨y_Z_place, 5, 3, 1, b_Z_place, (some .int), .codeWith y_Z_place b_Z_place 5 (some .int) [(0, 10, 13, 13)], Or.inr ⟨_, rfl⟩, hl, (wl_Z_place _ (List.mem_of_getElem? (i := 0) rfl)), (wl_Z_place _ (List.mem_of_getElem? (i := 1) rfl)), (wl_Z_place _ (List.mem_of_getElem? (i := 2) rfl)), by decide +kernel, zpar_of (by decide +kernel), by decide, hd, rfl, t_Z_place hV hfl⟩
abbrev b_Z_differ : ByteArray := method_16_code
def y_Z_differ : MethodName := ⟨"RevisionWriteLaw", "differ", "(LRevisionWrite;II[J)I"⟩
def k_Z_differ (q : Nat) : Option (Instr × Nat) := cond (Nat.blt q 19) (cond (Nat.blt q 9) (cond (Nat.blt q 3) (cond (Nat.blt q 1) (cond (Nat.beq q 0) (some (.aload_n 3, 1)) none) (cond (Nat.blt q 2) (cond (Nat.beq q 1) (some (.iconst 0, 1)) none) (cond (Nat.beq q 2) (some (.aload_n 0, 1)) none))) (cond (Nat.blt q 5) (cond (Nat.blt q 4) (cond (Nat.beq q 3) (some (.iload_n 1, 1)) none) (cond (Nat.beq q 4) (some (.iload_n 2, 1)) none)) (cond (Nat.blt q 8) (cond (Nat.beq q 5) (some (.invokevirtual 66, 3)) none) (cond (Nat.beq q 8) (some (.i2l, 1)) none)))) (cond (Nat.blt q 15) (cond (Nat.blt q 10) (cond (Nat.beq q 9) (some (.lastore, 1)) none) (cond (Nat.blt q 13) (cond (Nat.beq q 10) (some (.goto 7, 3)) none) (cond (Nat.beq q 13) (some (.astore 4, 2)) none))) (cond (Nat.blt q 17) (cond (Nat.blt q 16) (cond (Nat.beq q 15) (some (.iconst 1, 1)) none) (cond (Nat.beq q 16) (some (.ireturn, 1)) none)) (cond (Nat.blt q 18) (cond (Nat.beq q 17) (some (.iconst 0, 1)) none) (cond (Nat.beq q 18) (some (.ireturn, 1)) none))))) none
def s_Z_differ (q : Nat) : Bool := false
noncomputable def C_Z_differ : ZC := (k_Z_differ, fun _ => none, fun q => cond (Nat.beq q 66) (some (3, 0, f_W_differ)) (none), fun _ => none, zhdl1 10 0 15 4, 1, 5)
noncomputable def f_Z_differ : List ZV → ZT → Option ZR := zfn C_Z_differ [4, 0, 0, 18] [(2, 0)]
set_option maxRecDepth 20000 in
theorem kc_Z_differ : zchk b_Z_differ k_Z_differ 19 = true := by decide +kernel
set_option maxRecDepth 20000 in
theorem kk_Z_differ : zck k_Z_differ 19 [66] [] = true := by decide +kernel
set_option maxRecDepth 20000 in
theorem wl_Z_differ : ∀ w ∈ ([.static y_Z_differ, .codeWith y_Z_differ b_Z_differ 5 (some .int) [(0, 10, 13, 13)], .initialized "RevisionWriteLaw", .methodLink "RevisionWriteLaw" 66 y_W_differ, .classLink "RevisionWriteLaw" 13 (zexn 0)] : List Cond), w ∈ zTT := by decide +kernel
set_option maxRecDepth 20000 in
theorem zk_Z_differ : ∀ pc, 19 ≤ pc → k_Z_differ pc = none := fun pc h => by unfold k_Z_differ; rw [zblt_f h]; rfl
set_option maxRecDepth 20000 in
theorem t_Z_differ {E : ZE} (hV : zEV E) {l : Launch} (hfl : l.flags = flags0) : zMet E l y_Z_differ (.codeWith y_Z_differ b_Z_differ 5 (some .int) [(0, 10, 13, 13)]) 3 1 f_Z_differ := zmetW hV hfl (C := C_Z_differ) (by decide +kernel) ⟨zcode_of (N := 19) kc_Z_differ zk_Z_differ, (fun ix k s h => by cases h), (fun pc n ix ca hq hca => by
    have h9 := zck_v kk_Z_differ (zk_Z_differ) hq
    simp only [List.mem_cons, List.not_mem_nil, or_false] at h9
    rcases h9 with rfl
    · cases hca
      exact v_W_differ hV hfl (wl_Z_differ _ (List.mem_of_getElem? (i := 3) rfl)) (by decide)), (fun pc n ix ca hq _ => absurd (zck_s kk_Z_differ (zk_Z_differ) hq) (by simp)), (fun pc x hx => by cases hx)⟩ zrt1 rfl rfl (by decide) (by decide) ⟨by decide, Or.inl ⟨_, _, _, _, _, _, rfl, rfl, by decide, by decide, (Or.inr ⟨rfl, rfl⟩), (wl_Z_differ _ (List.mem_of_getElem? (i := 4) rfl))⟩⟩ (fun _ => rfl)
set_option maxRecDepth 20000 in
theorem v_Z_differ {E : ZE} (hV : zEV E) {l : Launch} (hfl : l.flags = flags0) {own : String} {ix d : Nat} (hl : Cond.methodLink own ix y_Z_differ ∈ zTT) (hd : 3 < d) : zStat E l own d ix 4 0 f_Z_differ := ⟨y_Z_differ, 5, 3, 1, b_Z_differ, (some .int), .codeWith y_Z_differ b_Z_differ 5 (some .int) [(0, 10, 13, 13)], Or.inr ⟨_, rfl⟩, hl, (wl_Z_differ _ (List.mem_of_getElem? (i := 0) rfl)), (wl_Z_differ _ (List.mem_of_getElem? (i := 1) rfl)), (wl_Z_differ _ (List.mem_of_getElem? (i := 2) rfl)), by decide +kernel, zpar_of (by decide +kernel), by decide, hd, rfl, t_Z_differ hV hfl⟩
abbrev b_Z_row : ByteArray := method_17_code
def y_Z_row : MethodName := ⟨"RevisionWriteLaw", "row", "(LRevisionWrite;II[J)I"⟩
def k_Z_row (q : Nat) : Option (Instr × Nat) := cond (Nat.blt q 19) (cond (Nat.blt q 9) (cond (Nat.blt q 3) (cond (Nat.blt q 1) (cond (Nat.beq q 0) (some (.aload_n 3, 1)) none) (cond (Nat.blt q 2) (cond (Nat.beq q 1) (some (.iconst 0, 1)) none) (cond (Nat.beq q 2) (some (.aload_n 0, 1)) none))) (cond (Nat.blt q 5) (cond (Nat.blt q 4) (cond (Nat.beq q 3) (some (.iload_n 1, 1)) none) (cond (Nat.beq q 4) (some (.iload_n 2, 1)) none)) (cond (Nat.blt q 8) (cond (Nat.beq q 5) (some (.invokevirtual 69, 3)) none) (cond (Nat.beq q 8) (some (.i2l, 1)) none)))) (cond (Nat.blt q 15) (cond (Nat.blt q 10) (cond (Nat.beq q 9) (some (.lastore, 1)) none) (cond (Nat.blt q 13) (cond (Nat.beq q 10) (some (.goto 7, 3)) none) (cond (Nat.beq q 13) (some (.astore 4, 2)) none))) (cond (Nat.blt q 17) (cond (Nat.blt q 16) (cond (Nat.beq q 15) (some (.iconst 1, 1)) none) (cond (Nat.beq q 16) (some (.ireturn, 1)) none)) (cond (Nat.blt q 18) (cond (Nat.beq q 17) (some (.iconst 0, 1)) none) (cond (Nat.beq q 18) (some (.ireturn, 1)) none))))) none
def s_Z_row (q : Nat) : Bool := false
noncomputable def C_Z_row : ZC := (k_Z_row, fun _ => none, fun q => cond (Nat.beq q 69) (some (3, 0, f_W_row)) (none), fun _ => none, zhdl1 10 0 15 4, 1, 5)
noncomputable def f_Z_row : List ZV → ZT → Option ZR := zfn C_Z_row [4, 0, 0, 18] [(2, 0)]
set_option maxRecDepth 20000 in
theorem kc_Z_row : zchk b_Z_row k_Z_row 19 = true := by decide +kernel
set_option maxRecDepth 20000 in
theorem kk_Z_row : zck k_Z_row 19 [69] [] = true := by decide +kernel
set_option maxRecDepth 20000 in
theorem wl_Z_row : ∀ w ∈ ([.static y_Z_row, .codeWith y_Z_row b_Z_row 5 (some .int) [(0, 10, 13, 13)], .initialized "RevisionWriteLaw", .methodLink "RevisionWriteLaw" 69 y_W_row, .classLink "RevisionWriteLaw" 13 (zexn 0)] : List Cond), w ∈ zTT := by decide +kernel
set_option maxRecDepth 20000 in
theorem zk_Z_row : ∀ pc, 19 ≤ pc → k_Z_row pc = none := fun pc h => by unfold k_Z_row; rw [zblt_f h]; rfl
set_option maxRecDepth 20000 in
theorem t_Z_row {E : ZE} (hV : zEV E) {l : Launch} (hfl : l.flags = flags0) : zMet E l y_Z_row (.codeWith y_Z_row b_Z_row 5 (some .int) [(0, 10, 13, 13)]) 2 1 f_Z_row := zmetW hV hfl (C := C_Z_row) (by decide +kernel) ⟨zcode_of (N := 19) kc_Z_row zk_Z_row, (fun ix k s h => by cases h), (fun pc n ix ca hq hca => by
    have h9 := zck_v kk_Z_row (zk_Z_row) hq
    simp only [List.mem_cons, List.not_mem_nil, or_false] at h9
    rcases h9 with rfl
    · cases hca
      exact v_W_row hV hfl (wl_Z_row _ (List.mem_of_getElem? (i := 3) rfl)) (by decide)), (fun pc n ix ca hq _ => absurd (zck_s kk_Z_row (zk_Z_row) hq) (by simp)), (fun pc x hx => by cases hx)⟩ zrt1 rfl rfl (by decide) (by decide) ⟨by decide, Or.inl ⟨_, _, _, _, _, _, rfl, rfl, by decide, by decide, (Or.inr ⟨rfl, rfl⟩), (wl_Z_row _ (List.mem_of_getElem? (i := 4) rfl))⟩⟩ (fun _ => rfl)
set_option maxRecDepth 20000 in
theorem v_Z_row {E : ZE} (hV : zEV E) {l : Launch} (hfl : l.flags = flags0) {own : String} {ix d : Nat} (hl : Cond.methodLink own ix y_Z_row ∈ zTT) (hd : 2 < d) : zStat E l own d ix 4 0 f_Z_row := ⟨y_Z_row, 5, 2, 1, b_Z_row, (some .int), .codeWith y_Z_row b_Z_row 5 (some .int) [(0, 10, 13, 13)], Or.inr ⟨_, rfl⟩, hl, (wl_Z_row _ (List.mem_of_getElem? (i := 0) rfl)), (wl_Z_row _ (List.mem_of_getElem? (i := 1) rfl)), (wl_Z_row _ (List.mem_of_getElem? (i := 2) rfl)), by decide +kernel, zpar_of (by decide +kernel), by decide, hd, rfl, t_Z_row hV hfl⟩
