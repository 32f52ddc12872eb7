/-! the end -/
