/-! the law's own entry -/
set_option maxRecDepth 100000
abbrev cL_law : ByteArray := code
