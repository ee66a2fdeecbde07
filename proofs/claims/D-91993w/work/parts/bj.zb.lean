/-! the machine keeps to Z everywhere -/
theorem zPrims_ok : zPrims := by
  refine ⟨?_, ?_, ?_, ?_, ?_, ?_, ?_, ?_, ?_, ?_, ?_, ?_, ?_⟩
  · exact fun inf pc idx cnt hd hq => p_lsize hd hq
  · exact fun inf pc idx cnt hd hq => p_lget hd hq
  · exact fun inf pc idx cnt hd hq => p_ladd1 hd hq
  · exact fun inf pc idx cnt hd hq => p_lrem hd hq
  · exact fun inf pc idx cnt hd hq => p_lclr hd hq
  · exact fun inf pc idx cnt hd hq => p_linit hd hq
  · exact fun inf pc idx cnt hd hq => p_slen hd hq
  · exact fun inf pc idx cnt hd hq => p_schar hd hq
  · exact fun inf pc idx cnt hd hq => p_acpy inf pc idx cnt hd hq
  · exact fun inf pc idx cnt hd hq => p_excinit hd hq
  · exact fun inf pc idx cnt hd hq => p_begins hd hq
  · exact fun inf pc idx cnt hd hq => p_puts hd hq
  · exact fun inf pc idx cnt hd hq => p_pastes hd hq
theorem zS_ok : ∀ n, zBody zG 40 zInfo n := zS zPrims_ok
